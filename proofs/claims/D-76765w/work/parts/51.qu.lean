/-! Queue -/
theorem q_isQueue {K : JK} {l : Launch} {hE : JIH} {b c : Nat} {y : CY} {s : AS} {C : Nat → Nat} {P : List (Nat × Nat)} {w : Nat → Int32} {bo : Int32} {ta : Nat → Nat} {D : List Nat} {tz : Nat}  (F : JF K) (S : CR K b hE c y s C P w bo ta D tz) {i : Nat} (hi : aq i) :
    Ct K l yX2_isQueue wX2_isQueue 0 [.ref (y.1 i)] hE (jRi (fun r h' => r = jB (i = 1 ∨ i = 2) ∧ hE = h')) jNo := by
  refine st_X2_isQueue (ls := [some (.ref (y.1 i))]) F rfl (body := fun M X => ?_)
  refine J.aload0 X dX2_isQueue_0 ?_
  refine J.aload0 X dX2_isQueue_1 ?_
  refine J.getf X dX2_isQueue_2 fl_X2_3_X2 ((S.q hi).1) rfl ?_
  refine J.getf X dX2_isQueue_5 fl_X2_22_X1 (S.o.1) rfl ?_
  refine J.acmp_eq (rx := some _) (ry := some _) (tgt := 22) X dX2_isQueue_8 (by decide) (fun c1 => ?_) (fun c1 => ?_)
  · skip
    refine J.iconst (v := nI 1) X dX2_isQueue_22 (by decide) ?_
    refine J.goto (tgt := 27) X dX2_isQueue_23 (by decide) ?_
    refine J.zreturn X dX2_isQueue_27 (rfl) (jRi.of ?_)
    exact ⟨jB_1 (Or.inl (S.qne hi aq1 (Option.some.inj c1))), rfl⟩
  · skip
    refine J.aload0 X dX2_isQueue_11 ?_
    refine J.aload0 X dX2_isQueue_12 ?_
    refine J.getf X dX2_isQueue_13 fl_X2_3_X2 ((S.q hi).1) rfl ?_
    refine J.getf X dX2_isQueue_16 fl_X2_28_X1 (S.o.1) rfl ?_
    refine J.acmp_ne (rx := some _) (ry := some _) (tgt := 26) X dX2_isQueue_19 (by decide) (fun c2 => ?_) (fun c2 => ?_)
    · skip
      refine J.iconst (v := nI 0) X dX2_isQueue_26 (by decide) ?_
      refine J.zreturn X dX2_isQueue_27 (rfl) (jRi.of ?_)
      exact ⟨jB_0 (fun z => z.elim (fun e => c1 (by rw [e])) (fun e => c2 (by rw [e]))), rfl⟩
    · skip
      refine J.iconst (v := nI 1) X dX2_isQueue_22 (by decide) ?_
      refine J.goto (tgt := 27) X dX2_isQueue_23 (by decide) ?_
      refine J.zreturn X dX2_isQueue_27 (rfl) (jRi.of ?_)
      exact ⟨jB_1 (Or.inr (S.qne hi aq2 (Option.some.inj c2))), rfl⟩
theorem q_weighs {K : JK} {l : Launch} {hE : JIH} {b c : Nat} {y : CY} {s : AS} {C : Nat → Nat} {P : List (Nat × Nat)} {w : Nat → Int32} {bo : Int32} {ta : Nat → Nat} {D : List Nat} {tz : Nat}  (F : JF K) (S : CR K b hE c y s C P w bo ta D tz) {i : Nat} (hi : aq i) (x : Int32) :
    Ct K l yX2_weighs wX2_weighs 1 [.ref (y.1 i), .int x] hE (jRv (fun h' => CR K b h' c y s C P (va_up w i (w i + x)) (if i ≤ 2 then bo + x else bo) ta D tz ∧ Fr (fun z => z = b + 6) hE h' ∧ hres h' = hres hE)) jNo := by
  refine st_X2_weighs (ls := [some (.ref (y.1 i)), some (.int x)]) F rfl (body := fun M X => ?_)
  refine J.aload0 X dX2_weighs_0 ?_
  refine J.dup X dX2_weighs_1 ?_
  refine J.getf X dX2_weighs_2 fl_X2_31_X2 ((S.q hi).1) rfl ?_
  refine J.iload1 X dX2_weighs_5 ?_
  refine J.iadd X dX2_weighs_6 ?_
  refine J.putf X dX2_weighs_7 (pl_X2_31_X2 _) ((S.q hi).1) (Nat.le_of_ble_eq_true rfl) (rfl) (rfl) ?_
  have S1 := S.wq hi (w i + x)
  have f1 : Fr (fun z => z = b + 6) hE (hset hE (y.1 i) (jO 2 [.ref (y.2.1 i), .int (w i + x), .ref c])) := Fr.set (S.q hi) rfl
  have e1 : hres (hset hE (y.1 i) (jO 2 [.ref (y.2.1 i), .int (w i + x), .ref c])) = hres hE := by refine hres_setS (S.q hi) ?_; rfl
  show J M (hset hE (y.1 i) (jO 2 [.ref (y.2.1 i), .int (w i + x), .ref c])) _ _ _
  generalize hset hE (y.1 i) (jO 2 [.ref (y.2.1 i), .int (w i + x), .ref c]) = h1 at S1 f1 e1
  refine J.aload0 X dX2_weighs_10 ?_
  refine J.callVi X dX2_weighs_11 lk_X2_35_X2 ce_X2_isQueue (q_isQueue F S1 hi) (by decide) rfl ((S1.q hi).1) rfl (fun r h' e _ => ?_)
  obtain ⟨rfl, rfl⟩ := e
  have hi1 := hi.1
  have hi2 := hi.2
  refine J.if_eqB (tgt := 30) X dX2_weighs_14 (by decide) (fun c1 => ?_) (fun c1 => ?_)
  · skip
    refine J.vreturn X dX2_weighs_30 (jRv.of ?_)
    rw [if_neg (by omega)]
    exact ⟨S1, f1, e1⟩
  · skip
    refine J.aload0 X dX2_weighs_17 ?_
    refine J.getf X dX2_weighs_18 fl_X2_3_X2 ((S1.q hi).1) rfl ?_
    refine J.dup X dX2_weighs_21 ?_
    refine J.getf X dX2_weighs_22 fl_X2_39_X1 (S1.o.1) rfl ?_
    refine J.iload1 X dX2_weighs_25 ?_
    refine J.iadd X dX2_weighs_26 ?_
    refine J.putf X dX2_weighs_27 (pl_X2_39_X1 _) (S1.o.1) (Nat.le_of_ble_eq_true rfl) (rfl) (rfl) ?_
    refine J.vreturn X dX2_weighs_30 (jRv.of ?_)
    rw [if_pos (by omega)]
    have f2 : Fr (fun z => z = b + 6) h1 (hset h1 c (jO 1 (caO C y (bo + x)))) := Fr.set S1.o rfl
    refine ⟨S1.wo C (bo + x), f1.tr f2, ?_⟩
    rw [← e1]
    refine hres_setS S1.o ?_
    rfl
theorem fr_q {b i : Nat} {h h' : JIH} (hi : aq i) (f : Fr (fun x => x = b + i) h h') : FV b h h' := FV.of f (fun x hx => by rw [hx]; exact CT.q hi) (fun _ => by have := hi.2; omega)
theorem fr_6 {b : Nat} {h h' : JIH} (f : Fr (fun x => x = 6) h h') : FV b h h' := FV.of f (fun x hx => Or.inr hx) (fun hb => by omega)
theorem fr_b6 {b : Nat} {h h' : JIH} (f : Fr (fun x => x = b + 6) h h') : FV b h h' := FV.of f (fun x hx => by rw [hx]; exact CT.t6 b) (fun _ => by omega)
theorem fr_b7 {b : Nat} {h h' : JIH} (f : Fr (fun x => x = b + 7) h h') : FV b h h' := FV.of f (fun x hx => by rw [hx]; exact CT.t7 b) (fun _ => by omega)
theorem q_adds {K : JK} {l : Launch} {hE : JIH} {b c : Nat} {y : CY} {s : AS} {C : Nat → Nat} {P : List (Nat × Nat)} {w : Nat → Int32} {bo : Int32} {ta : Nat → Nat} {D : List Nat} {tz : Nat}  (F : JF K) (S : CR K b hE c y s C P w bo ta D tz) {i k a : Nat} (hi : aq i) (g : IsKey hE a k) (hkD : k ∈ D) (hkq : ∀ j, aq j → k ∉ s.1 j) (rm : RM hE tz 14) :
    Ct K l yX2_adds wX2_adds 7 [.ref (y.1 i), .ref a, .ref (ta k)] hE (jRv (fun h' => ∃ tz', CR K b h' c y (ain s i k) C P (va_up w i (w i + nI (s.2.2 0 k))) (if i ≤ 2 then bo + nI (s.2.2 0 k) else bo) ta D tz' ∧ CF b hE tz 14 h' tz')) jNo := by
  have r8 := S.rm8 rm
  obtain ⟨fs, ob⟩ := S.mp hi
  have hb := S.bb
  have hi' := hi
  obtain ⟨l1, l2⟩ := hi'
  refine st_X2_adds (ls := [some (.ref (y.1 i)), some (.ref a), some (.ref (ta k))]) F rfl (body := fun M X => ?_)
  have qo := (S.q hi).1
  obtain ⟨ea, ka, n, mc, S, rfl⟩ := S
  refine J.aload0 X dX2_adds_0 ?_
  refine J.getf X dX2_adds_1 fl_X2_18_X2 (qo) rfl ?_
  refine J.aload1 X dX2_adds_4 ?_
  refine J.aload2 X dX2_adds_5 ?_
  refine J.callUa X dX2_adds_6 lk_X2_42_J2 ce_J1_put (c_put F (S.2.2.1 i hi) (v := ta k) g (hkq i hi) (by omega) (by omega)) (by decide) rfl (ob.1) rfl (fun r h' e _ => ?_)
  obtain ⟨rfl, a', n', L, f1, h1, h2⟩ := e
  rw [va_upid] at L
  have S1 := S.map hi f1 L (fun x hx => (List.mem_append.mp hx).elim (S.2.2.2.2.2.1 i x hi) (fun z => by rw [List.mem_singleton.mp z]; exact hkD)) (fun _ _ => rfl)
  have S2 : CR K b h' c y (ain s i k) C P w bo ta D (tzs (va_up n i n')) := ⟨_, _, _, _, S1, rfl⟩
  have tu := tzs_up n hi n'
  refine J.pop X dX2_adds_9 ?_
  refine J.aload0 X dX2_adds_10 ?_
  refine J.aload2 X dX2_adds_11 ?_
  refine J.getf X dX2_adds_12 fl_X2_46_X7 ((S2.th hkD).1) rfl ?_
  refine J.callVv X dX2_adds_15 lk_X2_49_X2 ce_X2_weighs (q_weighs F S2 hi (nI (s.2.2 0 k))) (by decide) rfl ((S2.q hi).1) rfl (fun h2 e _ => ?_)
  obtain ⟨S3, f3, e3⟩ := e
  refine J.vreturn X dX2_adds_18 (jRv.of ?_)
  exact ⟨_, S3, (fr_q hi f1).tr (fr_b6 f3), by rw [e3]; omega⟩
theorem q_loses {K : JK} {l : Launch} {hE : JIH} {b c : Nat} {y : CY} {s : AS} {C : Nat → Nat} {P : List (Nat × Nat)} {w : Nat → Int32} {bo : Int32} {ta : Nat → Nat} {D : List Nat} {tz : Nat}  (F : JF K) (S : CR K b hE c y s C P w bo ta D tz) {i k a : Nat} (hi : aq i) (g : IsKey hE a k) :
    Ct K l yX2_loses wX2_loses 5 [.ref (y.1 i), .ref a] hE (jRa (fun r h' => (k ∉ s.1 i ∧ r = none ∧ hE = h') ∨ (k ∈ s.1 i ∧ r = some (ta k) ∧ CR K b h' c y (aout s i k) C P (va_up w i (w i + -nI (s.2.2 0 k))) (if i ≤ 2 then bo + -nI (s.2.2 0 k) else bo) ta D tz ∧ CF b hE tz 0 h' tz))) jNo := by
  obtain ⟨fs, ob⟩ := S.mp hi
  have hb := S.bb
  have hi' := hi
  obtain ⟨l1, l2⟩ := hi'
  refine st_X2_loses (ls := [some (.ref (y.1 i)), some (.ref a), none]) F rfl (body := fun M X => ?_)
  have qo := (S.q hi).1
  obtain ⟨ea, ka, n, mc, S, rfl⟩ := S
  refine J.aload0 X dX2_loses_0 ?_
  refine J.getf X dX2_loses_1 fl_X2_18_X2 (qo) rfl ?_
  refine J.aload1 X dX2_loses_4 ?_
  refine J.callUa X dX2_loses_5 lk_X2_53_J2 ce_J1_remove (c_remove F (S.2.2.1 i hi) g (by omega)) (by decide) rfl (ob.1) rfl (fun r h' e _ => ?_)
  rcases e with ⟨hk, rfl, rfl⟩ | ⟨hk, rfl, L, f1, e1⟩
  · skip
    refine J.castN X dX2_loses_8 ?_
    refine J.astore2 X dX2_loses_11 ?_
    refine J.aload2 X dX2_loses_12 ?_
    refine J.ifnullN (a := 0) (tgt := 25) X dX2_loses_13 (by decide) ?_
    refine J.aload2 X dX2_loses_25 ?_
    refine J.areturnO X dX2_loses_26 (jRa.ofN ?_)
    exact Or.inl ⟨hk, rfl, rfl⟩
  · have S1 := S.map hi f1 L (fun x hx => S.2.2.2.2.2.1 i x hi (List.mem_of_mem_erase hx)) (fun _ _ => rfl)
    have S2 : CR K b h' c y (aout s i k) C P w bo ta D (tzs n) := ⟨_, _, _, _, S1, by have := tzs_up n hi (n i); omega⟩
    refine J.castS X dX2_loses_8 cl_X2_47 jcl_7 ((S2.th (S.2.2.2.2.2.1 i k hi hk)).1) ?_
    refine J.astore2 X dX2_loses_11 ?_
    refine J.aload2 X dX2_loses_12 ?_
    refine J.ifnullR (tgt := 25) X dX2_loses_13 (by decide) ?_
    refine J.aload0 X dX2_loses_16 ?_
    refine J.aload2 X dX2_loses_17 ?_
    refine J.getf X dX2_loses_18 fl_X2_46_X7 ((S2.th (S.2.2.2.2.2.1 i k hi hk)).1) rfl ?_
    refine J.ineg X dX2_loses_21 ?_
    refine J.callVv X dX2_loses_22 lk_X2_49_X2 ce_X2_weighs (q_weighs F S2 hi (-nI (s.2.2 0 k))) (by decide) rfl ((S2.q hi).1) rfl (fun h2 e _ => ?_)
    obtain ⟨S3, f3, e3⟩ := e
    refine J.aload2 X dX2_loses_25 ?_
    refine J.areturnO X dX2_loses_26 (jRa.ofR ?_)
    exact Or.inr ⟨hk, rfl, S3, (fr_q hi f1).tr (fr_b6 f3), by rw [e3, e1]; omega⟩
theorem npin_pre {s : AS} {i : Nat} {l1 r : List Nat} (h : s.1 i = l1 ++ r) (g : ∀ x ∈ l1, s.2.2 4 x ≠ 0) : l1.length ≤ npin s i := by
  unfold npin
  rw [h, List.filter_append, List.length_append]
  have : l1.filter (fun k => s.2.2 4 k != 0) = l1 := List.filter_eq_self.mpr (fun x hx => by simpa using g x hx)
  rw [this]
  omega
theorem aold_pre {s : AS} {i : Nat} {l1 r : List Nat} (h : s.1 i = l1 ++ r) (g : ∀ x ∈ l1, s.2.2 4 x ≠ 0) : aold s i = r.find? (fun k => s.2.2 4 k == 0) := by
  unfold aold
  rw [h, List.find?_append]
  have : l1.find? (fun k => s.2.2 4 k == 0) = none := List.find?_eq_none.mpr (fun x hx => by simpa using g x hx)
  rw [this]
  rfl
