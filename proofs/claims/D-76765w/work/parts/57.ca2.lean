/-! Cache: what falls, goes, fades *)-/
/-- a thing that is in no queue is written -/
theorem CC.wt {K : JK} {b : Nat} {h : JIH} {c : Nat} {y : CY} {s : AS} {C : Nat → Nat} {G : List Nat} {ta : Nat → Nat} {D : List Nat} {tz k j x : Nat} (S : CC K b h c y s C G ta D tz) (hk : k ∈ D) (hkq : ∀ i, aq i → k ∉ s.1 i) (hj : j ≠ 0) : CC K b (hset h (ta k) (jO 7 (thO (upV s j k x) k))) c y (upV s j k x) C G ta D tz ∧ CF b h tz 0 (hset h (ta k) (jO 7 (thO (upV s j k x) k))) tz := by
  obtain ⟨P, eP, R, A, hG⟩ := S
  have R2 := R.wt hk (s' := upV s j k x) rfl (fun _ _ => rfl) (fun i m hm => by rw [upV_2, if_neg (fun z => hm z.2)])
  rw [← wS_V (s := s) (k := k) (x := x) hj, ← bS_V (s := s) (k := k) (x := x) hj] at R2
  refine ⟨⟨P, eP, R2, A.att hkq (fun i m hm => by rw [show va_up s.2.2 j (va_up (s.2.2 j) k x) i m = (upV s j k x).2.2 i m from rfl, upV_2, if_neg (fun z => hm z.2)]), hG⟩, FV.th (R.th hk), ?_⟩
  have : hres (hset h (ta k) (jO 7 (thO (upV s j k x) k))) = hres h := by refine hres_setS (R.th hk) ?_; rfl
  omega
theorem k_falls {K : JK} {l : Launch} {hE : JIH} {b c : Nat} {y : CY} {s : AS} {C : Nat → Nat} {G : List Nat} {ta : Nat → Nat} {D : List Nat} {tz : Nat}  (F : JF K) (S : CC K b hE c y s C G ta D tz) {p : Nat} (hp : NP s p) (rm : RM hE tz (cst p)) :
    Ct K l yX1_falls wX1_falls 8 [.ref c] hE (jRi (fun r h' => (aold s 2 = none ∧ r = nI 0 ∧ CC K b h' c y s C G ta D tz ∧ CF b hE tz (cst p) h' tz) ∨ (∃ k tz', aold s 2 = some k ∧ r = nI 1 ∧ CC K b h' c y (afall s k) C G ta D tz' ∧ CF b hE tz (cst p) h' tz'))) jNo := by
  have hb := S.bb
  have A := S.aw
  unfold cst at rm ⊢
  refine st_X1_falls (ls := [some (.ref c), none]) F rfl (body := fun M X => ?_)
  refine J.aload0 X dX1_falls_0 ?_
  refine J.getf X dX1_falls_1 fl_X1_33_X1 (S.o.1) rfl ?_
  refine J.callVa X dX1_falls_4 lk_X1_133_X2 ce_X2_oldest (k_oldest F S aq2 (hp 2 aq2) (rm.mono (by omega))) (by decide) rfl ((S.q aq2).1) rfl (fun r h1 e _ => ?_)
  rcases e with ⟨z1, rfl, S1, F1⟩ | ⟨k, g, a, z1, rfl, cg, ka, S1, F1⟩
  · skip
    refine J.astore1 X dX1_falls_7 ?_
    refine J.aload1 X dX1_falls_8 ?_
    refine J.ifnonnullN (a := 0) (tgt := 14) X dX1_falls_9 (by decide) ?_
    refine J.iconst (v := nI 0) X dX1_falls_12 (by decide) ?_
    refine J.zreturn X dX1_falls_13 (rfl) (jRi.of ?_)
    exact Or.inl ⟨z1, rfl, S1, F1.mono (by omega)⟩
  · have hk := aold_some z1
    have hkD := S.dm aq2 hk.1
    have hkq := fun j hj => out_not A aq2 hk.1 (j := j) hj
    have ha := A.2.2 2 k aq2 hk.1
    refine J.astore1 X dX1_falls_7 ?_
    refine J.aload1 X dX1_falls_8 ?_
    refine J.ifnonnullR (tgt := 14) X dX1_falls_9 (by decide) ?_
    refine J.aload1 X dX1_falls_14 ?_
    refine J.getf X dX1_falls_15 fl_X1_137_X6 (cg.1) rfl ?_
    refine J.iconst (v := nI 0) X dX1_falls_18 (by decide) ?_
    refine J.putf X dX1_falls_19 (pl_X1_154_X7 _) ((S1.th hkD).1) (Nat.le_of_ble_eq_true rfl) (rfl) (rfl) ?_
    obtain ⟨S2, F2⟩ := S1.wt (j := 2) (x := 0) hkD hkq (by decide)
    have ka2 := ka.fr F2.1.1 (CT.n1 hb)
    have cg2 := cg.fr F2.1.1 (by unfold CT; omega)
    have e0 : (thO (aout s 2 k) k).set 3 (.int (nI 0)) = thO (upV (aout s 2 k) 2 k 0) k := by
      unfold thO
      simp only [upV_2]
      rfl
    rw [e0]
    generalize hset h1 (ta k) (jO 7 (thO (upV (aout s 2 k) 2 k 0) k)) = h2 at S2 F2 ka2 cg2
    refine J.aload0 X dX1_falls_22 ?_
    refine J.getf X dX1_falls_23 fl_X1_29_X1 (S2.o.1) rfl ?_
    refine J.aload1 X dX1_falls_26 ?_
    refine J.getf X dX1_falls_27 fl_X1_146_X6 (cg2.1) rfl ?_
    refine J.aload1 X dX1_falls_30 ?_
    refine J.getf X dX1_falls_31 fl_X1_137_X6 (cg2.1) rfl ?_
    have ho : aok (upV (aout s 2 k) 2 k 0) 1 k := by
      unfold aok
      simp only [upV_2]
      exact ⟨ha.1, ha.2.1, ha.2.2.1, by simp, ha.2.2.2.2.1, ha.2.2.2.2.2.1, fun z => absurd z (by decide)⟩
    refine J.callVv X dX1_falls_34 lk_X1_119_X2 ce_X2_adds (k_adds F S2 aq1 ka2 hkD rfl hkq ho ((F1.tr F2).rm rm (by omega))) (by decide) rfl ((S2.q aq1).1) rfl (fun h3 e _ => ?_)
    obtain ⟨tz3, S3, F3⟩ := e
    refine J.iconst (v := nI 1) X dX1_falls_37 (by decide) ?_
    refine J.zreturn X dX1_falls_38 (rfl) (jRi.of ?_)
    exact Or.inr ⟨k, tz3, z1, rfl, S3, ((F1.tr F2).tr F3).mono (by omega)⟩
theorem k_gfp {K : JK} {l : Launch} {hE : JIH} {b c : Nat} {y : CY} {s : AS} {C : Nat → Nat} {G : List Nat} {ta : Nat → Nat} {D : List Nat} {tz : Nat}  (F : JF K) (S : CC K b hE c y s C G ta D tz) {p : Nat} (hp : NP s p) (rm : RM hE tz (cst p)) :
    Ct K l yX1_goesFromProbation wX1_goesFromProbation 9 [.ref c] hE (jRi (fun r h' => (aold s 1 = none ∧ r = nI 0 ∧ CC K b h' c y s C G ta D tz ∧ CF b hE tz (cst p) h' tz) ∨ (∃ k ta' D' tz', aold s 1 = some k ∧ r = nI 1 ∧ ((0 < s.2.2 3 k ∧ CC K b h' c y (alife s k) C G ta' D' tz') ∨ (¬ 0 < s.2.2 3 k ∧ CC K b h' c y (ago s 1 k 3) (va_up C 9 (C 9 + 1)) ((k :: G).take 20) ta' D' tz')) ∧ CF b hE tz (cst p) h' tz'))) jNo := by
  have hb := S.bb
  have A := S.aw
  unfold cst at rm ⊢
  refine st_X1_goesFromProbation (ls := [some (.ref c), none, none]) F rfl (body := fun M X => ?_)
  refine J.aload0 X dX1_goesFromProbation_0 ?_
  refine J.getf X dX1_goesFromProbation_1 fl_X1_29_X1 (S.o.1) rfl ?_
  refine J.callVa X dX1_goesFromProbation_4 lk_X1_133_X2 ce_X2_oldest (k_oldest F S aq1 (hp 1 aq1) (rm.mono (by omega))) (by decide) rfl ((S.q aq1).1) rfl (fun r h1 e _ => ?_)
  rcases e with ⟨z1, rfl, S1, F1⟩ | ⟨k, g, a, z1, rfl, cg, ka, S1, F1⟩
  · skip
    refine J.astore1 X dX1_goesFromProbation_7 ?_
    refine J.aload1 X dX1_goesFromProbation_8 ?_
    refine J.ifnonnullN (a := 0) (tgt := 14) X dX1_goesFromProbation_9 (by decide) ?_
    refine J.iconst (v := nI 0) X dX1_goesFromProbation_12 (by decide) ?_
    refine J.zreturn X dX1_goesFromProbation_13 (rfl) (jRi.of ?_)
    exact Or.inl ⟨z1, rfl, S1, F1.mono (by omega)⟩
  · have hk := aold_some z1
    have hkD := S.dm aq1 hk.1
    have hkq := fun j hj => out_not A aq1 hk.1 (j := j) hj
    have ha := A.2.2 1 k aq1 hk.1
    have hch := ha.2.2.2.2.1
    have hch2 : (aout s 1 k).2.2 3 k = s.2.2 3 k := rfl
    refine J.astore1 X dX1_goesFromProbation_7 ?_
    refine J.aload1 X dX1_goesFromProbation_8 ?_
    refine J.ifnonnullR (tgt := 14) X dX1_goesFromProbation_9 (by decide) ?_
    refine J.aload1 X dX1_goesFromProbation_14 ?_
    refine J.getf X dX1_goesFromProbation_15 fl_X1_137_X6 (cg.1) rfl ?_
    refine J.astore2 X dX1_goesFromProbation_18 ?_
    refine J.aload2 X dX1_goesFromProbation_19 ?_
    refine J.getf X dX1_goesFromProbation_20 fl_X1_143_X7 ((S1.th hkD).1) rfl ?_
    refine J.if_leN (tgt := 51) X dX1_goesFromProbation_23 (by decide) (by omega) (fun c1 => ?_) (fun c1 => ?_)
    · skip
      refine J.aload0 X dX1_goesFromProbation_51 ?_
      refine J.aload1 X dX1_goesFromProbation_52 ?_
      refine J.getf X dX1_goesFromProbation_53 fl_X1_146_X6 (cg.1) rfl ?_
      refine J.aload2 X dX1_goesFromProbation_56 ?_
      refine J.aload0 X dX1_goesFromProbation_57 ?_
      refine J.getf X dX1_goesFromProbation_58 fl_X1_36_X1 (S1.o.1) rfl ?_
      refine J.callVv X dX1_goesFromProbation_61 lk_X1_150_X1 ce_X1_goes (k_goes F S1 aq3 ka hkD hkq ha.2.1 (F1.rm rm (by omega))) (by decide) rfl (S1.o.1) rfl (fun h3 e _ => ?_)
      obtain ⟨ta', D', tz', S3, F3⟩ := e
      refine J.iconst (v := nI 1) X dX1_goesFromProbation_64 (by decide) ?_
      refine J.zreturn X dX1_goesFromProbation_65 (rfl) (jRi.of ?_)
      exact Or.inr ⟨k, ta', D', tz', z1, rfl, Or.inr ⟨by omega, S3⟩, (F1.tr F3).mono (by omega)⟩
    · skip
      refine J.aload2 X dX1_goesFromProbation_26 ?_
      refine J.dup X dX1_goesFromProbation_27 ?_
      refine J.getf X dX1_goesFromProbation_28 fl_X1_143_X7 ((S1.th hkD).1) rfl ?_
      refine J.iconst (v := nI 1) X dX1_goesFromProbation_31 (by decide) ?_
      refine J.isubN X dX1_goesFromProbation_32 (by omega) ?_
      refine J.putf X dX1_goesFromProbation_33 (pl_X1_143_X7 _) ((S1.th hkD).1) (Nat.le_of_ble_eq_true rfl) (rfl) (rfl) ?_
      obtain ⟨S2, F2⟩ := S1.wt (j := 3) (x := s.2.2 3 k - 1) hkD hkq (by decide)
      have ka2 := ka.fr F2.1.1 (CT.n1 hb)
      have cg2 := cg.fr F2.1.1 (by unfold CT; omega)
      have e0 : (thO (aout s 1 k) k).set 4 (.int (nI (s.2.2 3 k - 1))) = thO (upV (aout s 1 k) 3 k (s.2.2 3 k - 1)) k := by
        unfold thO
        simp only [upV_2]
        simp
        rfl
      show J M (hset h1 (ta k) (jO 7 ((thO (aout s 1 k) k).set 4 (.int (nI (s.2.2 3 k - 1)))))) _ _ _
      rw [e0]
      generalize hset h1 (ta k) (jO 7 (thO (upV (aout s 1 k) 3 k (s.2.2 3 k - 1)) k)) = h2 at S2 F2 ka2 cg2
      refine J.aload0 X dX1_goesFromProbation_36 ?_
      refine J.getf X dX1_goesFromProbation_37 fl_X1_29_X1 (S2.o.1) rfl ?_
      refine J.aload1 X dX1_goesFromProbation_40 ?_
      refine J.getf X dX1_goesFromProbation_41 fl_X1_146_X6 (cg2.1) rfl ?_
      refine J.aload2 X dX1_goesFromProbation_44 ?_
      have ho : aok (upV (aout s 1 k) 3 k (s.2.2 3 k - 1)) 1 k := by
        unfold aok
        simp only [upV_2]
        refine ⟨ha.1, ha.2.1, ha.2.2.1, ha.2.2.2.1, ?_, ha.2.2.2.2.2.1, fun z => absurd z (by decide)⟩
        simp
        omega
      refine J.callVv X dX1_goesFromProbation_45 lk_X1_119_X2 ce_X2_adds (k_adds F S2 aq1 ka2 hkD rfl hkq ho ((F1.tr F2).rm rm (by omega))) (by decide) rfl ((S2.q aq1).1) rfl (fun h3 e _ => ?_)
      obtain ⟨tz3, S3, F3⟩ := e
      refine J.goto (tgt := 64) X dX1_goesFromProbation_48 (by decide) ?_
      refine J.iconst (v := nI 1) X dX1_goesFromProbation_64 (by decide) ?_
      refine J.zreturn X dX1_goesFromProbation_65 (rfl) (jRi.of ?_)
      exact Or.inr ⟨k, ta, D, tz3, z1, rfl, Or.inl ⟨by omega, S3⟩, ((F1.tr F2).tr F3).mono (by omega)⟩
theorem k_gfg {K : JK} {l : Launch} {hE : JIH} {b c : Nat} {y : CY} {s : AS} {C : Nat → Nat} {G : List Nat} {ta : Nat → Nat} {D : List Nat} {tz : Nat}  (F : JF K) (S : CC K b hE c y s C G ta D tz) {p : Nat} (hp : NP s p) (rm : RM hE tz (cst p)) :
    Ct K l yX1_goesFromProtected wX1_goesFromProtected 9 [.ref c] hE (jRi (fun r h' => (aold s 2 = none ∧ r = nI 0 ∧ CC K b h' c y s C G ta D tz ∧ CF b hE tz (cst p) h' tz) ∨ (∃ k ta' D' tz', aold s 2 = some k ∧ r = nI 1 ∧ CC K b h' c y (ago s 2 k 4) (va_up C 9 (C 9 + 1)) ((k :: G).take 20) ta' D' tz' ∧ CF b hE tz (cst p) h' tz'))) jNo := by
  have hb := S.bb
  have A := S.aw
  unfold cst at rm ⊢
  refine st_X1_goesFromProtected (ls := [some (.ref c), none]) F rfl (body := fun M X => ?_)
  refine J.aload0 X dX1_goesFromProtected_0 ?_
  refine J.getf X dX1_goesFromProtected_1 fl_X1_33_X1 (S.o.1) rfl ?_
  refine J.callVa X dX1_goesFromProtected_4 lk_X1_133_X2 ce_X2_oldest (k_oldest F S aq2 (hp 2 aq2) (rm.mono (by omega))) (by decide) rfl ((S.q aq2).1) rfl (fun r h1 e _ => ?_)
  rcases e with ⟨z1, rfl, S1, F1⟩ | ⟨k, g, a, z1, rfl, cg, ka, S1, F1⟩
  · skip
    refine J.astore1 X dX1_goesFromProtected_7 ?_
    refine J.aload1 X dX1_goesFromProtected_8 ?_
    refine J.ifnonnullN (a := 0) (tgt := 14) X dX1_goesFromProtected_9 (by decide) ?_
    refine J.iconst (v := nI 0) X dX1_goesFromProtected_12 (by decide) ?_
    refine J.zreturn X dX1_goesFromProtected_13 (rfl) (jRi.of ?_)
    exact Or.inl ⟨z1, rfl, S1, F1.mono (by omega)⟩
  · have hk := aold_some z1
    have hkD := S.dm aq2 hk.1
    have hkq := fun j hj => out_not A aq2 hk.1 (j := j) hj
    have ha := A.2.2 2 k aq2 hk.1
    refine J.astore1 X dX1_goesFromProtected_7 ?_
    refine J.aload1 X dX1_goesFromProtected_8 ?_
    refine J.ifnonnullR (tgt := 14) X dX1_goesFromProtected_9 (by decide) ?_
    refine J.aload0 X dX1_goesFromProtected_14 ?_
    refine J.aload1 X dX1_goesFromProtected_15 ?_
    refine J.getf X dX1_goesFromProtected_16 fl_X1_146_X6 (cg.1) rfl ?_
    refine J.aload1 X dX1_goesFromProtected_19 ?_
    refine J.getf X dX1_goesFromProtected_20 fl_X1_137_X6 (cg.1) rfl ?_
    refine J.aload0 X dX1_goesFromProtected_23 ?_
    refine J.getf X dX1_goesFromProtected_24 fl_X1_39_X1 (S1.o.1) rfl ?_
    refine J.callVv X dX1_goesFromProtected_27 lk_X1_150_X1 ce_X1_goes (k_goes F S1 aq4 ka hkD hkq ha.2.1 (F1.rm rm (by omega))) (by decide) rfl (S1.o.1) rfl (fun h3 e _ => ?_)
    obtain ⟨ta', D', tz', S3, F3⟩ := e
    refine J.iconst (v := nI 1) X dX1_goesFromProtected_30 (by decide) ?_
    refine J.zreturn X dX1_goesFromProtected_31 (rfl) (jRi.of ?_)
    exact Or.inr ⟨k, ta', D', tz', z1, rfl, S3, (F1.tr F3).mono (by omega)⟩
