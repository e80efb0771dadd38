/-! Queue: places, copies -/
theorem key_told {K : JK} {l : Launch} {hE : JIH} (F : JF K) {a k : Nat} (g : IsKey hE a k) : Ct K l yX8_told wX8_told 0 [.ref a] hE (jRi (fun r h' => r = nI k ∧ hE = h')) jNo := by
  have := ky_told (l := l) F g.2.1
  rw [show 100 * (k / 100) + k % 100 = k by omega] at this
  exact this
theorem key_eq {K : JK} {l : Launch} {hE : JIH} (F : JF K) {a k a' k' : Nat} (g : IsKey hE a k) (g' : IsKey hE a' k') : Ct K l yX8_equals wX8_equals 0 [.ref a, .ref a'] hE (jRi (fun r h' => r = jB (k = k') ∧ hE = h')) jNo := by
  have h1 := g.1
  have h2 := g'.1
  refine (ky_equals F g.2.1 g'.2.1 (by omega) (by omega) (by omega) (by omega)).weaken (fun r h' z => ?_) (fun _ _ _ z => z)
  obtain ⟨r, rfl, rfl, rfl⟩ := z
  refine ⟨_, rfl, ?_, rfl⟩
  exact jB_iff ⟨fun z => by omega, fun z => by subst z; exact ⟨rfl, rfl⟩⟩
theorem q_placeOf {K : JK} {l : Launch} {hE : JIH} {b c : Nat} {y : CY} {s : AS} {C : Nat → Nat} {P : List (Nat × Nat)} {w : Nat → Int32} {bo : Int32} {ta : Nat → Nat} {D : List Nat} {tz : Nat}  (F : JF K) (S : CR K b hE c y s C P w bo ta D tz) {i k a : Nat} (hi : aq i) (g : IsKey hE a k) {l1 l2 : List Nat} (hQ : s.1 i = l1 ++ k :: l2) (hn : (s.1 i).Nodup) (rm : RM hE tz 23) :
    Ct K l yX2_placeOf wX2_placeOf 6 [.ref (y.1 i), .ref a] hE (jRi (fun r h' => r = nI l1.length ∧ CR K b h' c y s C P w bo ta D tz ∧ CF b hE tz 23 h' tz)) jNo := by
  have r8 := S.rm8 rm
  obtain ⟨fs, ob⟩ := S.mp hi
  have hb := S.bb
  have hi' := hi
  obtain ⟨l1', l2'⟩ := hi'
  have hb1 : b + i ≠ 1 := by omega
  refine st_X2_placeOf (ls := [some (.ref (y.1 i)), some (.ref a), none, none, none]) F rfl (body := fun M X => ?_)
  have qo := (S.q hi).1
  obtain ⟨ea, ka, n, mc, S, rfl⟩ := S
  refine J.iconst (v := nI 0) X dX2_placeOf_0 (by decide) ?_
  refine J.istore2 X dX2_placeOf_1 ?_
  refine J.aload0 X dX2_placeOf_2 ?_
  refine J.getf X dX2_placeOf_3 fl_X2_18_X2 (qo) rfl ?_
  refine J.callVa X dX2_placeOf_6 lk_X2_107_J2 ce_J2_keySet (c_setKey F (S.2.2.1 i hi) hb1 (by omega)) (by decide) rfl (ob.1) rfl (fun r h1 e _ => ?_)
  obtain ⟨v, rfl, cv, L, f1, e1⟩ := e
  have S1 := S.map hi f1 L (S.2.2.2.2.2.1 i · hi) (fun _ _ => rfl)
  rw [upQ_id, va_upid, va_upid, va_upid, va_upid] at S1
  refine J.callFa X dX2_placeOf_9 lk_X2_61_J37 ce_J37_iterator (c_iterKey F (S1.2.2.1 i hi) cv.1 (by omega)) (by decide) rfl (cv.1) rfl (fun r h2 e _ => ?_)
  obtain ⟨rfl, e2⟩ := e
  have f2 := Fr.push (fun x => x = 6) h1 6 (jO 23 (itO (Option.map (ea i) (s.1 i).head?) none (mc i) (y.2.1 i)))
  have ci := hc.new h1 6 (jO 23 (itO (Option.map (ea i) (s.1 i).head?) none (mc i) (y.2.1 i)))
  have e3 := hres_push h1 6 (jO 23 (itO (Option.map (ea i) (s.1 i).head?) none (mc i) (y.2.1 i)))
  rw [← e2] at f2 ci e3
  have S2 := S1.fr f2 (b6 hb) (by decide)
  have f3 : FV b hE h2 := (fr_q hi f1).tr (fr_6 f2)
  have e4 : hres h2 ≤ hres hE + 23 := by
    have : esz (jO 23 (itO (Option.map (ea i) (s.1 i).head?) none (mc i) (y.2.1 i))) = 5 := rfl
    rw [e3, this]
    omega
  clear e2 e3 f2 S1 S L
  generalize hnew h1 = it at ci
  refine J.astore3 X dX2_placeOf_14 ?_
  have g2 : IsKey h2 a k := g.fr f3.1 (CT.n1 hb)
  suffices loop : ∀ (r p : List Nat) (h : JIH) (cur : Option Nat) (x4 : Option Value), s.1 i = p ++ r → k ∉ p → CI K b h c y s C P w bo ta D ea ka n mc → IsKey h a k → hc h 6 it (jO 23 (itO (Option.map (ea i) r.head?) cur (mc i) (y.2.1 i))) → FV b hE h → hres h ≤ hres hE + 23 → J M h 15 [some (.ref (y.1 i)), some (.ref a), some (.int (nI p.length)), some (.ref it), x4] [] from loop (s.1 i) [] h2 none none rfl (by simp) S2 g2 ci f3 e4
  clear S2 ci f3 e4 cv f1 e1 g2
  intro r
  induction r with
  | nil =>
    intro p h cur x4 hl hp S g ci ff ee
    exfalso
    rw [hl, List.append_nil] at hQ
    exact hp (by rw [hQ]; exact List.mem_append_right _ List.mem_cons_self)
  | cons x r ih =>
    intro p h cur x4 hl hp S g ci ff ee
    have hx : x ∈ s.1 i := by rw [hl]; exact List.mem_append_right _ List.mem_cons_self
    refine J.aload3 X dX2_placeOf_15 ?_
    refine J.callFi X dX2_placeOf_16 lk_X2_67_J13 ce_J11_hasNext (it_hasKey F ci.1) (by decide) rfl (ci.1) rfl (fun r' h' e _ => ?_)
    obtain ⟨rfl, rfl⟩ := e
    refine J.if_eqB (tgt := 52) X dX2_placeOf_21 (by decide) (fun q9 => absurd q9 (fun h => h rfl)) (fun _ => ?_)
    refine J.aload3 X dX2_placeOf_24 ?_
    refine J.callFa X dX2_placeOf_25 lk_X2_72_J13 ce_J13_next (c_nextKey F (S.2.2.1 i hi) hl ci.1) (by decide) rfl (ci.1) rfl (fun r' h' e _ => ?_)
    obtain ⟨rfl, e2⟩ := e
    have f2 : Fr (fun x => x = 6) h (hset h it (jO 23 (itO (Option.map (ea i) r.head?) (some (ea i x)) (mc i) (y.2.1 i)))) := Fr.set ci rfl
    have e3 : hres (hset h it (jO 23 (itO (Option.map (ea i) r.head?) (some (ea i x)) (mc i) (y.2.1 i)))) = hres h := by refine hres_setS ci ?_; rfl
    replace ci := ci.same (jO 23 (itO (Option.map (ea i) r.head?) (some (ea i x)) (mc i) (y.2.1 i)))
    rw [← e2] at f2 e3 ci
    clear e2
    replace S := S.fr f2 (b6 hb) (by decide)
    have ck := (S.2.2.1 i hi).key hx
    replace g := g.fr f2 (by decide)
    refine J.castS X dX2_placeOf_30 cl_X2_83 jcl_8 (ck.2.1) ?_
    refine J.astore4 X dX2_placeOf_33 ?_
    refine J.aload4 X dX2_placeOf_35 ?_
    refine J.aload1 X dX2_placeOf_37 ?_
    refine J.callVi X dX2_placeOf_38 lk_X2_110_X8 ce_X8_equals (key_eq F ck g) (by decide) rfl (ck.2.1) rfl (fun r' h3 e _ => ?_)
    obtain ⟨rfl, rfl⟩ := e
    refine J.if_eqB (tgt := 46) X dX2_placeOf_41 (by decide) (fun c1 => ?_) (fun c1 => ?_)
    · skip
      refine J.iinc2N (d := 1) X dX2_placeOf_46 (by decide) ?_
      refine J.goto (tgt := 15) X dX2_placeOf_49 (by decide) ?_
      have := ih (p ++ [x]) h' (some (ea i x)) (some (.ref (ka i x))) (by rw [hl]; simp) (fun z => (List.mem_append.mp z).elim hp (fun z => c1 (List.mem_singleton.mp z).symm)) S g ci (ff.tr (fr_6 f2)) (by rw [e3]; exact ee)
      rw [List.length_append, List.length_singleton] at this
      exact this
    · skip
      subst c1
      refine J.iload2 X dX2_placeOf_44 ?_
      refine J.zreturn X dX2_placeOf_45 (rfl) (jRi.of ?_)
      refine ⟨?_, ⟨ea, ka, n, mc, S, rfl⟩, ff.tr (fr_6 f2), by rw [e3]; omega⟩
      rw [hQ] at hl hn
      have h1 : x ∉ l1 := fun z => (List.nodup_append.mp hn).2.2 x z x List.mem_cons_self rfl
      have : ∀ (p q r1 r2 : List Nat), p ++ x :: r1 = q ++ x :: r2 → x ∉ p → x ∉ q → p.length = q.length := by
        intro p
        induction p with
        | nil =>
          intro q r1 r2 e _ hq
          cases q with
          | nil => rfl
          | cons z q =>
            exfalso
            injection e with e1 e2
            exact hq (by rw [e1]; exact List.mem_cons_self)
        | cons z p ih =>
          intro q r1 r2 e hp hq
          cases q with
          | nil =>
            exfalso
            injection e with e1 e2
            exact hp (by rw [e1]; exact List.mem_cons_self)
          | cons u q =>
            injection e with e1 e2
            rw [List.length_cons, List.length_cons, ih q r1 r2 e2 (fun z => hp (List.mem_cons_of_mem _ z)) (fun z => hq (List.mem_cons_of_mem _ z))]
      rw [this p l1 r l2 hl.symm hp h1]
theorem q_at {K : JK} {l : Launch} {hE : JIH} {b c : Nat} {y : CY} {s : AS} {C : Nat → Nat} {P : List (Nat × Nat)} {w : Nat → Int32} {bo : Int32} {ta : Nat → Nat} {D : List Nat} {tz : Nat}  (F : JF K) (S : CR K b hE c y s C P w bo ta D tz) {i j : Nat} (hi : aq i) (hj : j < 2147483648) (rm : RM hE tz 23) :
    Ct K l yX2_at wX2_at 6 [.ref (y.1 i), .int (nI j)] hE (jRi (fun r h' => r = (oel (s.1 i)[j]? (-5) (fun k => nI k)) ∧ CR K b h' c y s C P w bo ta D tz ∧ CF b hE tz 23 h' tz)) jNo := by
  have r8 := S.rm8 rm
  obtain ⟨fs, ob⟩ := S.mp hi
  have hb := S.bb
  have hi' := hi
  obtain ⟨l1', l2'⟩ := hi'
  have hb1 : b + i ≠ 1 := by omega
  refine st_X2_at (ls := [some (.ref (y.1 i)), some (.int (nI j)), none, none, none]) F rfl (body := fun M X => ?_)
  have qo := (S.q hi).1
  obtain ⟨ea, ka, n, mc, S, rfl⟩ := S
  refine J.iload1 X dX2_at_0 ?_
  refine J.istore2 X dX2_at_1 ?_
  refine J.aload0 X dX2_at_2 ?_
  refine J.getf X dX2_at_3 fl_X2_18_X2 (qo) rfl ?_
  refine J.callVa X dX2_at_6 lk_X2_107_J2 ce_J2_keySet (c_setKey F (S.2.2.1 i hi) hb1 (by omega)) (by decide) rfl (ob.1) rfl (fun r h1 e _ => ?_)
  obtain ⟨v, rfl, cv, L, f1, e1⟩ := e
  have S1 := S.map hi f1 L (S.2.2.2.2.2.1 i · hi) (fun _ _ => rfl)
  rw [upQ_id, va_upid, va_upid, va_upid, va_upid] at S1
  refine J.callFa X dX2_at_9 lk_X2_61_J37 ce_J37_iterator (c_iterKey F (S1.2.2.1 i hi) cv.1 (by omega)) (by decide) rfl (cv.1) rfl (fun r h2 e _ => ?_)
  obtain ⟨rfl, e2⟩ := e
  have f2 := Fr.push (fun x => x = 6) h1 6 (jO 23 (itO (Option.map (ea i) (s.1 i).head?) none (mc i) (y.2.1 i)))
  have ci := hc.new h1 6 (jO 23 (itO (Option.map (ea i) (s.1 i).head?) none (mc i) (y.2.1 i)))
  have e3 := hres_push h1 6 (jO 23 (itO (Option.map (ea i) (s.1 i).head?) none (mc i) (y.2.1 i)))
  rw [← e2] at f2 ci e3
  have S2 := S1.fr f2 (b6 hb) (by decide)
  have f3 : FV b hE h2 := (fr_q hi f1).tr (fr_6 f2)
  have e4 : hres h2 ≤ hres hE + 23 := by
    have : esz (jO 23 (itO (Option.map (ea i) (s.1 i).head?) none (mc i) (y.2.1 i))) = 5 := rfl
    rw [e3, this]
    omega
  clear e2 e3 f2 S1 S L
  generalize hnew h1 = it at ci
  refine J.astore3 X dX2_at_14 ?_
  suffices loop : ∀ (r p : List Nat) (h : JIH) (cur : Option Nat) (x4 : Option Value), s.1 i = p ++ r → p.length ≤ j → CI K b h c y s C P w bo ta D ea ka n mc → hc h 6 it (jO 23 (itO (Option.map (ea i) r.head?) cur (mc i) (y.2.1 i))) → FV b hE h → hres h ≤ hres hE + 23 → J M h 15 [some (.ref (y.1 i)), some (.int (nI j)), some (.int (nI (j - p.length))), some (.ref it), x4] [] from loop (s.1 i) [] h2 none none rfl (Nat.zero_le _) S2 ci f3 e4
  clear S2 ci f3 e4 cv f1 e1
  intro r
  induction r with
  | nil =>
    intro p h cur x4 hl hp S ci ff ee
    refine J.aload3 X dX2_at_15 ?_
    refine J.callFi X dX2_at_16 lk_X2_67_J13 ce_J11_hasNext (it_hasKey F ci.1) (by decide) rfl (ci.1) rfl (fun r' h' e _ => ?_)
    obtain ⟨rfl, rfl⟩ := e
    refine J.if_eqB (tgt := 51) X dX2_at_21 (by decide) (fun _ => ?_) (fun q9 => absurd q9 (fun h => by cases h))
    refine J.bipush (v := -5) X dX2_at_51 (by decide) ?_
    refine J.zreturn X dX2_at_53 (rfl) (jRi.of ?_)
    refine ⟨?_, ⟨ea, ka, n, mc, S, rfl⟩, ff, by omega⟩
    rw [hl, List.append_nil, List.getElem?_eq_none hp]
    rfl
  | cons x r ih =>
    intro p h cur x4 hl hp S ci ff ee
    have hx : x ∈ s.1 i := by rw [hl]; exact List.mem_append_right _ List.mem_cons_self
    refine J.aload3 X dX2_at_15 ?_
    refine J.callFi X dX2_at_16 lk_X2_67_J13 ce_J11_hasNext (it_hasKey F ci.1) (by decide) rfl (ci.1) rfl (fun r' h' e _ => ?_)
    obtain ⟨rfl, rfl⟩ := e
    refine J.if_eqB (tgt := 51) X dX2_at_21 (by decide) (fun q9 => absurd q9 (fun h => h rfl)) (fun _ => ?_)
    refine J.aload3 X dX2_at_24 ?_
    refine J.callFa X dX2_at_25 lk_X2_72_J13 ce_J13_next (c_nextKey F (S.2.2.1 i hi) hl ci.1) (by decide) rfl (ci.1) rfl (fun r' h' e _ => ?_)
    obtain ⟨rfl, e2⟩ := e
    have f2 : Fr (fun x => x = 6) h (hset h it (jO 23 (itO (Option.map (ea i) r.head?) (some (ea i x)) (mc i) (y.2.1 i)))) := Fr.set ci rfl
    have e3 : hres (hset h it (jO 23 (itO (Option.map (ea i) r.head?) (some (ea i x)) (mc i) (y.2.1 i)))) = hres h := by refine hres_setS ci ?_; rfl
    replace ci := ci.same (jO 23 (itO (Option.map (ea i) r.head?) (some (ea i x)) (mc i) (y.2.1 i)))
    rw [← e2] at f2 e3 ci
    clear e2
    replace S := S.fr f2 (b6 hb) (by decide)
    have ck := (S.2.2.1 i hi).key hx
    refine J.castS X dX2_at_30 cl_X2_83 jcl_8 (ck.2.1) ?_
    refine J.astore4 X dX2_at_33 ?_
    refine J.iload2 X dX2_at_35 ?_
    refine J.if_neN (tgt := 45) X dX2_at_36 (by decide) (by omega) (fun c1 => ?_) (fun c1 => ?_)
    · skip
      refine J.iinc2 (d := -1) X dX2_at_45 (by decide) ?_
      have e5 : nI (j - p.length) + -1 = nI (j - (p ++ [x]).length) := by
        rw [List.length_append, List.length_singleton, show j - p.length = j - (p.length + 1) + 1 by omega, pk_m1]
      rw [e5]
      refine J.goto (tgt := 15) X dX2_at_48 (by decide) ?_
      exact ih (p ++ [x]) h' _ _ (by rw [hl]; simp) (by rw [List.length_append, List.length_singleton]; omega) S ci (ff.tr (fr_6 f2)) (by rw [e3]; exact ee)
    · skip
      refine J.aload4 X dX2_at_39 ?_
      refine J.callVi X dX2_at_41 lk_X2_114_X8 ce_X8_told (key_told F ck) (by decide) rfl (ck.2.1) rfl (fun r' h3 e _ => ?_)
      obtain ⟨rfl, rfl⟩ := e
      refine J.zreturn X dX2_at_44 (rfl) (jRi.of ?_)
      refine ⟨?_, ⟨ea, ka, n, mc, S, rfl⟩, ff.tr (fr_6 f2), by rw [e3]; omega⟩
      obtain rfl : j = p.length := by omega
      rw [hl, List.getElem?_append_right (Nat.le_refl _), Nat.sub_self]
      rfl
