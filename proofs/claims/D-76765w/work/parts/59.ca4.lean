/-! Cache: hits, things, changes, drops -/
theorem mmin_nI {a b : Nat} (ha : a < 2147483648) (hb : b < 2147483648) : (if nI b < nI a then nI b else nI a) = nI (min a b) := by
  by_cases c : b < a
  · rw [if_pos (by rw [Int32.lt_iff_toInt_lt, nI_toInt ha, nI_toInt hb]; omega), Nat.min_eq_right (Nat.le_of_lt c)]
  · rw [if_neg (by rw [Int32.lt_iff_toInt_lt, nI_toInt ha, nI_toInt hb]; omega), Nat.min_eq_left (by omega)]
/-- a thing is written, its weight but for -/
theorem CC.wv {K : JK} {b : Nat} {h : JIH} {c : Nat} {y : CY} {s s' : AS} {C : Nat → Nat} {G : List Nat} {ta : Nat → Nat} {D : List Nat} {tz k : Nat} (S : CC K b h c y s C G ta D tz) (hk : k ∈ D) (h1 : s'.1 = s.1) (h2 : ∀ j, j ≠ k → s'.2.1 j = s.2.1 j) (h3 : ∀ i j, j ≠ k → s'.2.2 i j = s.2.2 i j) (h4 : s'.2.2 0 k = s.2.2 0 k) (h5 : s'.2.1 k = s.2.1 k) (A' : AW s') : CC K b (hset h (ta k) (jO 7 (thO s' k))) c y s' C G ta D tz ∧ CF b h tz 0 (hset h (ta k) (jO 7 (thO s' k))) tz := by
  obtain ⟨P, eP, R, A, hG⟩ := S
  have R2 := R.wt hk h1 h2 h3
  have e : s'.2.2 0 = s.2.2 0 := by
    funext m
    by_cases e : m = k
    · rw [e]; exact h4
    · exact h3 0 m e
  have ew : ∀ i, wsum s' i = wsum s i := fun i => by unfold wsum; rw [h1, e]
  have e1 : wS s' = wS s := by funext i; unfold wS; rw [ew]
  have e2 : bS s' = bS s := by unfold bS; rw [ew, ew]
  rw [← e1, ← e2] at R2
  refine ⟨⟨P, eP, R2, A', hG⟩, ?_, ?_⟩
  · have := R.th hk
    unfold thO at this ⊢
    rw [h5]
    exact FV.th this
  · have : hres (hset h (ta k) (jO 7 (thO s' k))) = hres h := by refine hres_setS (R.th hk) ?_; rfl
    omega
theorem AW.V {s : AS} (h : AW s) {j k x : Nat} (g : (j = 1 ∧ x ≤ 99) ∨ (j = 2 ∧ x ≤ 99) ∨ (j = 3 ∧ x ≤ 9) ∨ (j = 0 ∧ 1 ≤ x ∧ x ≤ 9) ∨ (j = 4 ∧ x ≤ 1 ∧ k ∉ s.1 3 ∧ k ∉ s.1 4)) : AW (upV s j k x) := by
  refine ⟨h.1, h.2.1, fun i m hi hm => ?_⟩
  have a := h.2.2 i m hi hm
  simp only [upV_2]
  have hi1 := hi.1
  have hi2 := hi.2
  by_cases e : m = k
  · subst e
    rcases g with ⟨rfl, g⟩ | ⟨rfl, g⟩ | ⟨rfl, g⟩ | ⟨rfl, g1, g2⟩ | ⟨rfl, g, g3, g4⟩
    · simp; exact ⟨a.1, a.2.1, g, a.2.2.2⟩
    · simp; exact ⟨a.1, a.2.1, a.2.2.1, g, a.2.2.2.2⟩
    · simp; exact ⟨a.1, a.2.1, a.2.2.1, a.2.2.2.1, g, a.2.2.2.2.2⟩
    · simp; exact ⟨a.1, ⟨g1, g2⟩, a.2.2⟩
    · simp
      refine ⟨a.1, a.2.1, a.2.2.1, a.2.2.2.1, a.2.2.2.2.1, g, fun h3 => ?_⟩
      exfalso
      rcases (show i = 3 ∨ i = 4 by omega) with rfl | rfl
      · exact g3 hm
      · exact g4 hm
  · simp [e]; exact a
def ahit (s : AS) (ris k : Nat) : AS :=
  let s1 := upV s 2 k (min 99 (s.2.2 2 k + 1))
  if k ∈ s.1 1 then ain (aout s1 1 k) (if min 99 (s.2.2 2 k + 1) < ris then 1 else 2) k else ain (aout s1 2 k) 2 k
theorem k_thing {K : JK} {l : Launch} {hE : JIH} {b c : Nat} {y : CY} {s : AS} {C : Nat → Nat} {G : List Nat} {ta : Nat → Nat} {D : List Nat} {tz : Nat}  (F : JF K) (S : CC K b hE c y s C G ta D tz) {k a : Nat} (g : IsKey hE a k) :
    Ct K l yX1_thing wX1_thing 4 [.ref c, .ref a] hE (jRa (fun r h' => r = (if k ∈ s.1 1 ∨ k ∈ s.1 2 then some (ta k) else none) ∧ hE = h')) jNo := by
  obtain ⟨f1, o1⟩ := S.mp aq1
  obtain ⟨f2, o2⟩ := S.mp aq2
  have g1 : Ct K l yJ2_get wJ2_get 3 [.ref (y.2.1 1), .ref a] hE (jRa (fun r h' => r = (if k ∈ s.1 1 then some (ta k) else none) ∧ hE = h')) jNo := by
    obtain ⟨ea, ka, n, mc, L⟩ := S.lm aq1
    exact c_get F L g
  have g2 : Ct K l yJ2_get wJ2_get 3 [.ref (y.2.1 2), .ref a] hE (jRa (fun r h' => r = (if k ∈ s.1 2 then some (ta k) else none) ∧ hE = h')) jNo := by
    obtain ⟨ea, ka, n, mc, L⟩ := S.lm aq2
    exact c_get F L g
  refine st_X1_thing (ls := [some (.ref c), some (.ref a), none]) F rfl (body := fun M X => ?_)
  refine J.aload0 X dX1_thing_0 ?_
  refine J.getf X dX1_thing_1 fl_X1_29_X1 (S.o.1) rfl ?_
  refine J.getf X dX1_thing_4 fl_X1_101_X2 ((S.q aq1).1) rfl ?_
  refine J.aload1 X dX1_thing_7 ?_
  refine J.callVa X dX1_thing_8 lk_X1_181_J2 ce_J2_get (g1) (by decide) rfl (o1.1) rfl (fun r h' e _ => ?_)
  obtain ⟨rfl, rfl⟩ := e
  by_cases c1 : k ∈ s.1 1
  · rw [if_pos c1]
    refine J.castS X dX1_thing_11 cl_X1_111 jcl_7 ((S.th (S.dm aq1 c1)).1) ?_
    refine J.astore2 X dX1_thing_14 ?_
    refine J.aload2 X dX1_thing_15 ?_
    refine J.ifnonnullR (tgt := 36) X dX1_thing_16 (by decide) ?_
    refine J.aload2 X dX1_thing_36 ?_
    refine J.areturnO X dX1_thing_37 (jRa.ofR ?_)
    exact ⟨by rw [if_pos (Or.inl c1)], rfl⟩
  · rw [if_neg c1]
    refine J.castN X dX1_thing_11 ?_
    refine J.astore2 X dX1_thing_14 ?_
    refine J.aload2 X dX1_thing_15 ?_
    refine J.ifnonnullN (a := 0) (tgt := 36) X dX1_thing_16 (by decide) ?_
    refine J.aload0 X dX1_thing_19 ?_
    refine J.getf X dX1_thing_20 fl_X1_33_X1 (S.o.1) rfl ?_
    refine J.getf X dX1_thing_23 fl_X1_101_X2 ((S.q aq2).1) rfl ?_
    refine J.aload1 X dX1_thing_26 ?_
    refine J.callVa X dX1_thing_27 lk_X1_181_J2 ce_J2_get (g2) (by decide) rfl (o2.1) rfl (fun r h' e _ => ?_)
    obtain ⟨rfl, rfl⟩ := e
    by_cases c2 : k ∈ s.1 2
    · rw [if_pos c2]
      refine J.castS X dX1_thing_30 cl_X1_111 jcl_7 ((S.th (S.dm aq2 c2)).1) ?_
      refine J.goto (tgt := 37) X dX1_thing_33 (by decide) ?_
      refine J.areturnO X dX1_thing_37 (jRa.ofR ?_)
      exact ⟨by rw [if_pos (Or.inr c2)], rfl⟩
    · rw [if_neg c2]
      refine J.castN X dX1_thing_30 ?_
      refine J.goto (tgt := 37) X dX1_thing_33 (by decide) ?_
      refine J.areturnO X dX1_thing_37 (jRa.ofN ?_)
      exact ⟨by rw [if_neg (fun z => z.elim c1 c2)], rfl⟩
theorem k_hits {K : JK} {l : Launch} {hE : JIH} {b c : Nat} {y : CY} {s : AS} {C : Nat → Nat} {G : List Nat} {ta : Nat → Nat} {D : List Nat} {tz : Nat}  (F : JF K) (S : CC K b hE c y s C G ta D tz) (hC2 : C 2 < 1000) {k a tA : Nat} (g : IsKey hE a k) (htA : ta k = tA) (hq : k ∈ s.1 1 ∨ k ∈ s.1 2) (rm : RM hE tz 14) :
    Ct K l yX1_hits wX1_hits 8 [.ref c, .ref a, .ref tA] hE (jRv (fun h' => ∃ tz', CC K b h' c y (ahit s (C 2) k) C G ta D tz' ∧ CF b hE tz 14 h' tz')) jNo := by
  subst htA
  have hb := S.bb
  have A := S.aw
  have hkD : k ∈ D := hq.elim (S.dm aq1) (S.dm aq2)
  have ha : ∃ i, aq i ∧ k ∈ s.1 i ∧ i ≤ 2 := hq.elim (fun z => ⟨1, aq1, z, by decide⟩) (fun z => ⟨2, aq2, z, by decide⟩)
  obtain ⟨i, hi, hki, hi2⟩ := ha
  have ak := A.2.2 i k hi hki
  have hht := ak.2.2.2.1
  refine st_X1_hits (ls := [some (.ref c), some (.ref a), some (.ref (ta k)), none]) F rfl (body := fun M X => ?_)
  refine J.aload2 X dX1_hits_0 ?_
  refine J.bipush (v := nI 99) X dX1_hits_1 (by decide) ?_
  refine J.aload2 X dX1_hits_3 ?_
  refine J.getf X dX1_hits_4 fl_X1_154_X7 ((S.th hkD).1) rfl ?_
  refine J.iconst (v := nI 1) X dX1_hits_7 (by decide) ?_
  refine J.iaddN X dX1_hits_8 ?_
  refine J.mmin X dX1_hits_9 q2050 (by decide) ?_
  refine J.topi (y := nI (min 99 (s.2.2 2 k + 1))) (mmin_nI (by decide) (by omega)) ?_
  refine J.putf X dX1_hits_12 (pl_X1_154_X7 _) ((S.th hkD).1) (Nat.le_of_ble_eq_true rfl) (rfl) (rfl) ?_
  have hm99 : min 99 (s.2.2 2 k + 1) ≤ 99 := Nat.min_le_left _ _
  have A1 : AW (upV s 2 k (min 99 (s.2.2 2 k + 1))) := A.V (Or.inr (Or.inl ⟨rfl, hm99⟩))
  have e0 : (thO s k).set 3 (.int (nI (min 99 (s.2.2 2 k + 1)))) = thO (upV s 2 k (min 99 (s.2.2 2 k + 1))) k := by
    unfold thO
    simp only [upV_2]
    simp
    rfl
  obtain ⟨S1, F1⟩ := S.wv (s' := upV s 2 k (min 99 (s.2.2 2 k + 1))) hkD rfl (fun _ _ => rfl) (fun i j hj => by rw [upV_2, if_neg (fun z => hj z.2)]) (by rw [upV_2, if_neg (fun z => absurd z.1 (by decide))]) rfl A1
  show J M (hset hE (ta k) (jO 7 ((thO s k).set 3 (.int (nI (min 99 (s.2.2 2 k + 1))))))) _ _ _
  rw [e0]
  have g1 := g.fr F1.1.1 (CT.n1 hb)
  generalize hset hE (ta k) (jO 7 (thO (upV s 2 k (min 99 (s.2.2 2 k + 1))) k)) = h1 at S1 F1 g1
  have eh : (upV s 2 k (min 99 (s.2.2 2 k + 1))).2.2 2 k = min 99 (s.2.2 2 k + 1) := by rw [upV_2, if_pos ⟨rfl, rfl⟩]
  have ep : ∀ j, j ≠ 2 → (upV s 2 k (min 99 (s.2.2 2 k + 1))).2.2 j k = s.2.2 j k := fun j hj => by rw [upV_2, if_neg (fun z => hj z.1)]
  have ho : ∀ j, j ≤ 2 → aok (upV s 2 k (min 99 (s.2.2 2 k + 1))) j k := by
    intro j hj
    refine ⟨ak.1, ?_, ?_, ?_, ?_, ?_, fun z => by omega⟩
    · rw [ep 0 (by decide)]; exact ak.2.1
    · rw [ep 1 (by decide)]; exact ak.2.2.1
    · rw [eh]; exact hm99
    · rw [ep 3 (by decide)]; exact ak.2.2.2.2.1
    · rw [ep 4 (by decide)]; exact ak.2.2.2.2.2.1
  have q1 : (upV s 2 k (min 99 (s.2.2 2 k + 1))).1 = s.1 := rfl
  generalize hm : min 99 (s.2.2 2 k + 1) = mm at S1 F1 A1 eh ep ho hm99 q1
  generalize hs1 : upV s 2 k mm = s1 at S1 F1 A1 eh ep ho q1
  refine J.aload0 X dX1_hits_15 ?_
  refine J.getf X dX1_hits_16 fl_X1_29_X1 (S1.o.1) rfl ?_
  refine J.aload1 X dX1_hits_19 ?_
  refine J.callVa X dX1_hits_20 lk_X1_177_X2 ce_X2_loses (k_loses F S1 aq1 g1) (by decide) rfl ((S1.q aq1).1) rfl (fun r h2 e _ => ?_)
  rcases e with ⟨z1, rfl, rfl⟩ | ⟨z1, rfl, S2, F2⟩
  · rw [q1] at z1
    have hk2 : k ∈ s.1 2 := hq.resolve_left z1
    refine J.ifnullN (a := 0) (tgt := 30) X dX1_hits_23 (by decide) ?_
    refine J.iconst (v := nI 0) X dX1_hits_30 (by decide) ?_
    refine J.istore3 X dX1_hits_31 ?_
    refine J.iload3 X dX1_hits_32 ?_
    refine J.if_neN (tgt := 45) X dX1_hits_33 (by decide) (by omega) (fun q9 => absurd q9 (by omega)) (fun _ => ?_)
    refine J.aload0 X dX1_hits_36 ?_
    refine J.getf X dX1_hits_37 fl_X1_33_X1 (S1.o.1) rfl ?_
    refine J.aload1 X dX1_hits_40 ?_
    refine J.callVa X dX1_hits_41 lk_X1_177_X2 ce_X2_loses (k_loses F S1 aq2 g1) (by decide) rfl ((S1.q aq2).1) rfl (fun r h2 e _ => ?_)
    rcases e with ⟨z2, -⟩ | ⟨z2, rfl, S2, F2⟩
    · exact absurd hk2 (by rw [q1] at z2; exact z2)
    have hkq := fun j hj => out_not A1 aq2 z2 (j := j) hj
    have g2 := g1.fr F2.1.1 (CT.n1 hb)
    refine J.pop X dX1_hits_44 ?_
    refine J.iload3 X dX1_hits_45 ?_
    refine J.if_eqN (tgt := 72) X dX1_hits_46 (by decide) (by omega) (fun _ => ?_) (fun q9 => absurd q9 (by omega))
    refine J.aload0 X dX1_hits_72 ?_
    refine J.getf X dX1_hits_73 fl_X1_33_X1 (S2.o.1) rfl ?_
    refine J.aload1 X dX1_hits_76 ?_
    refine J.aload2 X dX1_hits_77 ?_
    refine J.callVv X dX1_hits_78 lk_X1_119_X2 ce_X2_adds (k_adds F S2 aq2 g2 hkD rfl hkq (ho 2 (by decide)) ((F1.tr F2).rm rm (by omega))) (by decide) rfl ((S2.q aq2).1) rfl (fun h3 e _ => ?_)
    obtain ⟨tz3, S3, F3⟩ := e
    refine J.vreturn X dX1_hits_81 (jRv.of ?_)
    unfold ahit
    simp only
    rw [hm, hs1, if_neg z1]
    exact ⟨tz3, S3, ((F1.tr F2).tr F3).mono (by omega)⟩
  · rw [q1] at z1
    have hkq := fun j hj => out_not A1 aq1 (by rw [q1]; exact z1) (j := j) hj
    have g2 := g1.fr F2.1.1 (CT.n1 hb)
    refine J.ifnullR (tgt := 30) X dX1_hits_23 (by decide) ?_
    refine J.iconst (v := nI 1) X dX1_hits_26 (by decide) ?_
    refine J.goto (tgt := 31) X dX1_hits_27 (by decide) ?_
    refine J.istore3 X dX1_hits_31 ?_
    refine J.iload3 X dX1_hits_32 ?_
    refine J.if_neN (tgt := 45) X dX1_hits_33 (by decide) (by omega) (fun _ => ?_) (fun q9 => absurd q9 (by omega))
    refine J.iload3 X dX1_hits_45 ?_
    refine J.if_eqN (tgt := 72) X dX1_hits_46 (by decide) (by omega) (fun q9 => absurd q9 (by omega)) (fun _ => ?_)
    refine J.aload2 X dX1_hits_49 ?_
    refine J.getf X dX1_hits_50 fl_X1_154_X7 ((S2.th hkD).1) rfl ?_
    refine J.topi (y := nI (mm)) (by rw [show (aout s1 1 k).2.2 2 k = s1.2.2 2 k from rfl, eh]) ?_
    refine J.aload0 X dX1_hits_53 ?_
    refine J.getf X dX1_hits_54 fl_X1_18_X1 (S2.o.1) rfl ?_
    refine J.icmp_geN (tgt := 72) X dX1_hits_57 (by decide) (by omega) (by omega) (fun c1 => ?_) (fun c1 => ?_)
    · skip
      refine J.aload0 X dX1_hits_72 ?_
      refine J.getf X dX1_hits_73 fl_X1_33_X1 (S2.o.1) rfl ?_
      refine J.aload1 X dX1_hits_76 ?_
      refine J.aload2 X dX1_hits_77 ?_
      refine J.callVv X dX1_hits_78 lk_X1_119_X2 ce_X2_adds (k_adds F S2 aq2 g2 hkD rfl hkq (ho 2 (by decide)) ((F1.tr F2).rm rm (by omega))) (by decide) rfl ((S2.q aq2).1) rfl (fun h3 e _ => ?_)
      obtain ⟨tz3, S3, F3⟩ := e
      refine J.vreturn X dX1_hits_81 (jRv.of ?_)
      unfold ahit
      simp only
      rw [hm, hs1, if_pos z1, if_neg (by omega)]
      exact ⟨tz3, S3, ((F1.tr F2).tr F3).mono (by omega)⟩
    · skip
      refine J.aload0 X dX1_hits_60 ?_
      refine J.getf X dX1_hits_61 fl_X1_29_X1 (S2.o.1) rfl ?_
      refine J.aload1 X dX1_hits_64 ?_
      refine J.aload2 X dX1_hits_65 ?_
      refine J.callVv X dX1_hits_66 lk_X1_119_X2 ce_X2_adds (k_adds F S2 aq1 g2 hkD rfl hkq (ho 1 (by decide)) ((F1.tr F2).rm rm (by omega))) (by decide) rfl ((S2.q aq1).1) rfl (fun h3 e _ => ?_)
      obtain ⟨tz3, S3, F3⟩ := e
      refine J.goto (tgt := 81) X dX1_hits_69 (by decide) ?_
      refine J.vreturn X dX1_hits_81 (jRv.of ?_)
      unfold ahit
      simp only
      rw [hm, hs1, if_pos z1, if_pos (by omega)]
      exact ⟨tz3, S3, ((F1.tr F2).tr F3).mono (by omega)⟩
theorem awhere_le (s : AS) (k : Nat) : awhere s k ≤ 4 := by
  unfold awhere
  split
  · omega
  · split
    · omega
    · split
      · omega
      · split <;> omega
theorem awhere_mem {s : AS} {k : Nat} (h : awhere s k ≠ 0) : aq (awhere s k) ∧ k ∈ s.1 (awhere s k) := by
  unfold awhere at h ⊢
  split
  · exact ⟨aq1, by assumption⟩
  · split
    · exact ⟨aq2, by assumption⟩
    · split
      · exact ⟨aq3, by assumption⟩
      · split
        · exact ⟨aq4, by assumption⟩
        · rename_i a1 a2 a3 a4
          rw [if_neg a1, if_neg a2, if_neg a3, if_neg a4] at h
          exact absurd rfl h
theorem awhere_of {s : AS} (A : AW s) {i k : Nat} (hi : aq i) (hk : k ∈ s.1 i) : awhere s k = i := by
  have h0 : awhere s k ≠ 0 := by
    obtain ⟨h1, h4⟩ := hi
    unfold awhere
    rcases (show i = 1 ∨ i = 2 ∨ i = 3 ∨ i = 4 by omega) with rfl | rfl | rfl | rfl
    · rw [if_pos hk]; decide
    · by_cases a1 : k ∈ s.1 1
      · rw [if_pos a1]; decide
      · rw [if_neg a1, if_pos hk]; decide
    · by_cases a1 : k ∈ s.1 1
      · rw [if_pos a1]; decide
      · by_cases a2 : k ∈ s.1 2
        · rw [if_neg a1, if_pos a2]; decide
        · rw [if_neg a1, if_neg a2, if_pos hk]; decide
    · by_cases a1 : k ∈ s.1 1
      · rw [if_pos a1]; decide
      · by_cases a2 : k ∈ s.1 2
        · rw [if_neg a1, if_pos a2]; decide
        · by_cases a3 : k ∈ s.1 3
          · rw [if_neg a1, if_neg a2, if_pos a3]; decide
          · rw [if_neg a1, if_neg a2, if_neg a3, if_pos hk]; decide
  have h1 := awhere_mem h0
  exact A.1 _ _ k h1.1 hi h1.2 hk
def adrop (s : AS) (k : Nat) : AS := if awhere s k = 0 then s else aout s (awhere s k) k
theorem k_drops {K : JK} {l : Launch} {hE : JIH} {b c : Nat} {y : CY} {s : AS} {C : Nat → Nat} {G : List Nat} {ta : Nat → Nat} {D : List Nat} {tz : Nat}  (F : JF K) (S : CC K b hE c y s C G ta D tz) {k a : Nat} (g : IsKey hE a k) :
    Ct K l yX1_drops wX1_drops 6 [.ref c, .ref a] hE (jRi (fun r h' => r = nI (awhere s k) ∧ CC K b h' c y (adrop s k) C G ta D tz ∧ CF b hE tz 0 h' tz)) jNo := by
  have hw := awhere_le s k
  refine st_X1_drops (ls := [some (.ref c), some (.ref a), none]) F rfl (body := fun M X => ?_)
  refine J.aload0 X dX1_drops_0 ?_
  refine J.aload1 X dX1_drops_1 ?_
  refine J.callVi X dX1_drops_2 lk_X1_191_X1 ce_X1_where (k_where F S g) (by decide) rfl (S.o.1) rfl (fun r h' e _ => ?_)
  obtain ⟨rfl, rfl⟩ := e
  refine J.istore2 X dX1_drops_5 ?_
  refine J.iload2 X dX1_drops_6 ?_
  refine J.if_eqN (tgt := 20) X dX1_drops_7 (by decide) (by omega) (fun c1 => ?_) (fun c1 => ?_)
  · skip
    refine J.iload2 X dX1_drops_20 ?_
    refine J.zreturn X dX1_drops_21 (rfl) (jRi.of ?_)
    unfold adrop
    rw [if_pos c1]
    exact ⟨rfl, S, CF.rf _ _ _⟩
  · skip
    obtain ⟨hi, hk⟩ := awhere_mem c1
    refine J.aload0 X dX1_drops_10 ?_
    refine J.iload2 X dX1_drops_11 ?_
    refine J.callVa X dX1_drops_12 lk_X1_97_X1 ce_X1_queue (k_queue F S hi) (by decide) rfl (S.o.1) rfl (fun r h' e _ => ?_)
    obtain ⟨rfl, rfl⟩ := e
    refine J.aload1 X dX1_drops_15 ?_
    refine J.callVa X dX1_drops_16 lk_X1_177_X2 ce_X2_loses (k_loses F S hi g) (by decide) rfl ((S.q hi).1) rfl (fun r h2 e _ => ?_)
    rcases e with ⟨z2, -⟩ | ⟨-, rfl, S2, F2⟩
    · exact absurd hk z2
    refine J.pop X dX1_drops_19 ?_
    refine J.iload2 X dX1_drops_20 ?_
    refine J.zreturn X dX1_drops_21 (rfl) (jRi.of ?_)
    unfold adrop
    rw [if_neg c1]
    exact ⟨rfl, S2, F2⟩
