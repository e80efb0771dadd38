/-! Cache: changes, gets -/
/-- the same, values but for -/
def CFw (b : Nat) (h : JIH) (tz c : Nat) (h' : JIH) (tz' : Nat) : Prop := Fr (CT b) h h' ∧ hres h' + tz ≤ hres h + c + tz'
theorem CF.w {b : Nat} {h : JIH} {tz c : Nat} {h' : JIH} {tz' : Nat} (f : CF b h tz c h' tz') : CFw b h tz c h' tz' := ⟨f.1.1, f.2⟩
theorem CFw.tr {b : Nat} {h h1 h2 : JIH} {tz tz1 tz2 c1 c2 : Nat} (f : CFw b h tz c1 h1 tz1) (g : CFw b h1 tz1 c2 h2 tz2) : CFw b h tz (c1 + c2) h2 tz2 := ⟨f.1.tr g.1, by have := f.2; have := g.2; omega⟩
theorem CFw.mono {b : Nat} {h h1 : JIH} {tz tz1 c1 c2 : Nat} (f : CFw b h tz c1 h1 tz1) (g : c1 ≤ c2) : CFw b h tz c2 h1 tz1 := ⟨f.1, by have := f.2; omega⟩
theorem CFw.rm {b : Nat} {h h1 : JIH} {tz tz1 c1 c2 c3 : Nat} (f : CFw b h tz c1 h1 tz1) (r : RM h tz c3) (g : c1 + c2 ≤ c3) : RM h1 tz1 c2 := by
  have := f.2
  unfold RM at r ⊢
  omega
theorem CR.congrW {K : JK} {b : Nat} {h : JIH} {c : Nat} {y : CY} {s : AS} {C : Nat → Nat} {P : List (Nat × Nat)} {w w' : Nat → Int32} {bo : Int32} {ta : Nat → Nat} {D : List Nat} {tz : Nat} (S : CR K b h c y s C P w bo ta D tz) (g : ∀ i, aq i → w' i = w i) : CR K b h c y s C P w' bo ta D tz := by
  obtain ⟨ea, ka, n, mc, ⟨c1, c2, c3⟩, e⟩ := S
  exact ⟨ea, ka, n, mc, ⟨c1, fun i hi => by rw [g i hi]; exact c2 i hi, c3⟩, e⟩
theorem wsum_w {s : AS} (A : AW s) {i k x : Nat} (hi : aq i) (hk : k ∈ s.1 i) : wsum (upV s 0 k x) i + s.2.2 0 k = wsum s i + x := by
  have h1 := sum_erase (f := s.2.2 0) hk
  have h2 := sum_erase (f := (upV s 0 k x).2.2 0) hk
  have h3 : (((s.1 i).erase k).map ((upV s 0 k x).2.2 0)).sum = (((s.1 i).erase k).map (s.2.2 0)).sum := by
    refine sum_congr (fun m hm => ?_)
    have : m ≠ k := ((mem_erase_iff (A.2.1 i hi)).mp hm).2
    rw [upV_2, if_neg (fun z => this z.2)]
  have h4 : (upV s 0 k x).2.2 0 k = x := by rw [upV_2, if_pos ⟨rfl, rfl⟩]
  rw [h3, h4] at h2
  unfold wsum
  show ((s.1 i).map ((upV s 0 k x).2.2 0)).sum + _ = _
  omega
theorem wsum_w0 {s : AS} {i k x : Nat} (hk : k ∉ s.1 i) : wsum (upV s 0 k x) i = wsum s i := by
  unfold wsum
  exact sum_congr (fun m hm => by rw [upV_2, if_neg (show ¬ (0 = 0 ∧ m = k) from fun z => hk (z.2 ▸ hm))])
theorem nI_ws {a a' x t : Nat} (h : a' + t = a + x) : nI a + (nI x - nI t) = nI a' := by
  rw [Int32.sub_eq_add_neg, ← Int32.add_assoc, nI_add, ← h, ← nI_add, Int32.add_assoc, Int32.add_right_neg, Int32.add_zero]
def achg (s : AS) (k : Nat) (v : Int32) (x co : Nat) : AS := upV (upV (upL s k v) 1 k co) 0 k x
theorem k_changes {K : JK} {l : Launch} {hE : JIH} {b c : Nat} {y : CY} {s : AS} {C : Nat → Nat} {G : List Nat} {ta : Nat → Nat} {D : List Nat} {tz : Nat}  (F : JF K) (S : CC K b hE c y s C G ta D tz) (hC2 : C 2 < 1000) {k a tA x co : Nat} {v : Int32} (g : IsKey hE a k) (htA : ta k = tA) (hq : k ∈ s.1 1 ∨ k ∈ s.1 2) (hx : 1 ≤ x ∧ x ≤ 9) (hco : co ≤ 99) (rm : RM hE tz 14) :
    Ct K l yX1_changes wX1_changes 9 [.ref c, .ref a, .ref tA, .int v, .int (nI x), .int (nI co)] hE (jRv (fun h' => ∃ tz', CC K b h' c y (ahit (achg s k v x co) (C 2) k) C G ta D tz' ∧ CFw b hE tz 14 h' tz')) jNo := by
  subst htA
  have hb := S.bb
  have A := S.aw
  have hkD : k ∈ D := hq.elim (S.dm aq1) (S.dm aq2)
  have ha : ∃ i, aq i ∧ k ∈ s.1 i ∧ i ≤ 2 := hq.elim (fun z => ⟨1, aq1, z, by decide⟩) (fun z => ⟨2, aq2, z, by decide⟩)
  obtain ⟨i, hi, hki, hi2⟩ := ha
  have hwh := awhere_of A hi hki
  have ak := A.2.2 i k hi hki
  refine st_X1_changes (ls := [some (.ref c), some (.ref a), some (.ref (ta k)), some (.int v), some (.int (nI x)), some (.int (nI co))]) F rfl (body := fun M X => ?_)
  obtain ⟨P, eP, R, -, hG⟩ := S
  refine J.fresh (R.th hkD).1 ?_
  refine J.aload2 X dX1_changes_0 ?_
  refine J.iload3 X dX1_changes_1 ?_
  refine J.putfS X dX1_changes_2 (pl_X1_185_X7 _) ((R.th hkD).1) (Nat.le_of_ble_eq_true rfl) (rfl) (rfl) ?_
  refine J.aload2 X dX1_changes_5 ?_
  refine J.iload5 X dX1_changes_6 ?_
  refine J.putfS X dX1_changes_8 (pl_X1_188_X7 _) ((R.th hkD).1) (Nat.le_of_ble_eq_true rfl) (rfl) (rfl) ?_
  have R2 := R.wt hkD (s' := upV (upL s k v) 1 k co) rfl (fun j hj => va_up_ne _ _ hj) (fun i j hj => by rw [upV_2, if_neg (fun z => hj z.2)]; rfl)
  have A2 : AW (upV (upL s k v) 1 k co) := AW.V (s := upL s k v) A (Or.inl ⟨rfl, hco⟩)
  have e0 : ((thO s k).set 0 (.int v)).set 2 (.int (nI co)) = thO (upV (upL s k v) 1 k co) k := by
    unfold thO
    simp only [upV_2]
    have : (upV (upL s k v) 1 k co).2.1 k = v := va_up_self _ _ _
    rw [this]
    simp
    exact ⟨rfl, rfl, rfl, rfl⟩
  have f1 : Fr (fun z => z = b + 5) hE (hset hE (ta k) (jO 7 (thO (upV (upL s k v) 1 k co) k))) := Fr.set (R.th hkD) rfl
  have e1 : hres (hset hE (ta k) (jO 7 (thO (upV (upL s k v) 1 k co) k))) = hres hE := by refine hres_setS (R.th hkD) ?_; rfl
  show J M (hset hE (ta k) (jO 7 (((thO s k).set 0 (.int v)).set 2 (.int (nI co))))) _ _ _
  rw [e0]
  have w2 : ∀ j, wsum (upV (upL s k v) 1 k co) j = wsum s j := fun j => by rw [wsum_V (by decide)]; rfl
  have ew : wS (upV (upL s k v) 1 k co) = wS s := by funext j; unfold wS; rw [w2]
  have eb : bS (upV (upL s k v) 1 k co) = bS s := by unfold bS; rw [w2, w2]
  rw [← ew, ← eb] at R2
  have g2 := g.fr f1 (by omega)
  have ewt : (upV (upL s k v) 1 k co).2.2 0 k = s.2.2 0 k := by rw [upV_2, if_neg (fun z => absurd z.1 (by decide))]; rfl
  have eq1 : (upV (upL s k v) 1 k co).1 = s.1 := rfl
  have S2 : CC K b _ c y (upV (upL s k v) 1 k co) C G ta D tz := ⟨P, eP, R2, A2, hG⟩
  generalize hset hE (ta k) (jO 7 (thO (upV (upL s k v) 1 k co) k)) = h1 at S2 R2 f1 e1 g2
  have hch : achg s k v x co = upV (upV (upL s k v) 1 k co) 0 k x := rfl
  generalize upV (upL s k v) 1 k co = s2 at S2 R2 A2 ewt eq1 hch
  have hki2 : k ∈ s2.1 i := by rw [eq1]; exact hki
  refine J.aload0 X dX1_changes_11 ?_
  refine J.aload0 X dX1_changes_12 ?_
  refine J.aload1 X dX1_changes_13 ?_
  refine J.callVi X dX1_changes_14 lk_X1_191_X1 ce_X1_where (k_where F S2 g2) (by decide) rfl (S2.o.1) rfl (fun r h' e _ => ?_)
  obtain ⟨rfl, rfl⟩ := e
  rw [awhere_of A2 hi hki2]
  refine J.callVa X dX1_changes_17 lk_X1_97_X1 ce_X1_queue (k_queue F S2 hi) (by decide) rfl (S2.o.1) rfl (fun r h' e _ => ?_)
  obtain ⟨rfl, rfl⟩ := e
  refine J.iload4 X dX1_changes_20 ?_
  refine J.aload2 X dX1_changes_22 ?_
  refine J.getf X dX1_changes_23 fl_X1_113_X7 ((S2.th hkD).1) rfl ?_
  refine J.isub X dX1_changes_26 ?_
  refine J.callVNv X dX1_changes_27 lk_X1_195_X2 ce_X2_weighs (q_weighs F R2 hi (nI x - nI (s2.2.2 0 k))) (by decide) rfl ((S2.q hi).1) rfl (fun h2 e _ => ?_)
  obtain ⟨R3, f3, e3⟩ := e
  refine J.aload2 X dX1_changes_30 ?_
  refine J.iload4 X dX1_changes_31 ?_
  have R4 := R3.wt hkD (s' := upV s2 0 k x) rfl (fun _ _ => rfl) (fun i j hj => by rw [upV_2, if_neg (fun z => hj z.2)])
  refine J.fresh (R3.th hkD).1 ?_
  refine J.putfS X dX1_changes_33 (pl_X1_113_X7 _) ((R3.th hkD).1) (Nat.le_of_ble_eq_true rfl) (rfl) (rfl) ?_
  have e5 : (thO s2 k).set 1 (.int (nI x)) = thO (upV s2 0 k x) k := by
    unfold thO
    simp only [upV_2]
    simp
    rfl
  show J M (hset h2 (ta k) (jO 7 ((thO s2 k).set 1 (.int (nI x))))) _ _ _
  rw [e5]
  have f4 : Fr (fun z => z = b + 5) h2 (hset h2 (ta k) (jO 7 (thO (upV s2 0 k x) k))) := Fr.set (R3.th hkD) rfl
  have e4 : hres (hset h2 (ta k) (jO 7 (thO (upV s2 0 k x) k))) = hres h2 := by refine hres_setS (R3.th hkD) ?_; rfl
  have g4 := (g2.fr f3 (by omega)).fr f4 (by omega)
  have hws := wsum_w (x := x) A2 hi hki2
  have hwo : ∀ j, aq j → j ≠ i → wsum (upV s2 0 k x) j = wsum s2 j := fun j hj hne => wsum_w0 (fun z => hne (A2.1 j i k hj hi z hki2))
  have eb4 : (if i ≤ 2 then bS s2 + (nI x - nI (s2.2.2 0 k)) else bS s2) = bS (upV s2 0 k x) := by
    rw [if_pos hi2]
    unfold bS
    have hi1 := hi.1
    rcases (show i = 1 ∨ i = 2 by omega) with rfl | rfl
    · rw [hwo 2 aq2 (by decide)]
      exact nI_ws (by omega)
    · rw [hwo 1 aq1 (by decide)]
      exact nI_ws (by omega)
  rw [eb4] at R4
  replace R4 := R4.congrW (w' := wS (upV s2 0 k x)) (fun j hj => by
    by_cases e : j = i
    · subst e
      rw [va_up_self]
      exact (nI_ws hws).symm
    · rw [va_up_ne _ _ e]
      unfold wS
      rw [hwo j hj e])
  have S4 : CC K b _ c y (upV s2 0 k x) C G ta D tz := ⟨P, eP, R4, A2.V (Or.inr (Or.inr (Or.inr (Or.inl ⟨rfl, hx⟩)))), hG⟩
  have FF : CFw b hE tz 0 (hset h2 (ta k) (jO 7 (thO (upV s2 0 k x) k))) tz := ⟨((f1.mono (fun z hz => by rw [hz]; exact CT.t5 b)).tr (f3.mono (fun z hz => by rw [hz]; exact CT.t6 b))).tr (f4.mono (fun z hz => by rw [hz]; exact CT.t5 b)), by omega⟩
  generalize hset h2 (ta k) (jO 7 (thO (upV s2 0 k x) k)) = h4 at S4 g4 FF
  refine J.aload0 X dX1_changes_36 ?_
  refine J.aload1 X dX1_changes_37 ?_
  refine J.aload2 X dX1_changes_38 ?_
  refine J.callVv X dX1_changes_39 lk_X1_198_X1 ce_X1_hits (k_hits F S4 hC2 g4 rfl (by rw [show (upV s2 0 k x).1 = s2.1 from rfl, eq1]; exact hq) (FF.rm rm (by omega))) (by decide) rfl (S4.o.1) rfl (fun h5 e _ => ?_)
  obtain ⟨tz5, S5, F5⟩ := e
  refine J.vreturn X dX1_changes_42 (jRv.of ?_)
  rw [hch]
  exact ⟨tz5, S5, (FF.tr F5.w).mono (by omega)⟩
theorem CG.pre {b : Nat} {hE : JIH} {tz0 p : Nat} {e : Nat} {h h' : JIH} {tz tz' : Nat} {s s' : AS} (f : CF b hE tz0 (cst p) h tz) (g : CG b h tz p s e h' tz' s') : CG b hE tz0 p s (e + 1) h' tz' s' := by
  refine ⟨f.1.tr g.1, ?_⟩
  have h1 := g.2
  have h2 := f.2
  rw [Nat.add_mul, Nat.one_mul]
  omega
def agetC (s : AS) (C : Nat → Nat) (k : Nat) : Nat → Nat := if k ∈ s.1 1 ∨ k ∈ s.1 2 then va_up (va_up C 4 (C 4 + 1)) 7 (C 7 + s.2.2 1 k) else if awhere s k = 0 then va_up C 5 (C 5 + 1) else va_up (va_up C 5 (C 5 + 1)) 6 (C 6 + 1)
theorem k_gets {K : JK} {l : Launch} {hE : JIH} {b c : Nat} {y : CY} {s : AS} {C : Nat → Nat} {G : List Nat} {ta : Nat → Nat} {D : List Nat} {tz : Nat}  (F : JF K) (S : CC K b hE c y s C G ta D tz) (hC0 : C 0 < 1000) (hC1 : C 1 < 1000) (hC2 : C 2 < 1000) {k a p fu : Nat} {s' : AS} {gs : List Nat} (g : IsKey hE a k) (hp : NP (ahit s (C 2) k) p) (hT : (k ∈ s.1 1 ∨ k ∈ s.1 2) → atrim (C 0) (C 1) fu (ahit s (C 2) k) s' gs) (rm : RM hE tz (Phi (ahit s (C 2) k) * cst p + 8 * cst p)) :
    Ct K l yX1_gets wX1_gets 11 [.ref c, .ref a] hE (jRa (fun r h' => (¬ (k ∈ s.1 1 ∨ k ∈ s.1 2) ∧ r = none ∧ CC K b h' c y s (agetC s C k) G ta D tz ∧ CF b hE tz 0 h' tz) ∨ ((k ∈ s.1 1 ∨ k ∈ s.1 2) ∧ ∃ t fs ta' D' tz', r = some t ∧ hc h' (b + 5) t (jO 7 (.int (s.2.1 k) :: fs)) ∧ CC K b h' c y s' (va_up (agetC s C k) 9 (C 9 + gs.length)) ((gs ++ G).take 20) ta' D' tz' ∧ CG b hE tz p (ahit s (C 2) k) 5 h' tz' s' ∧ NP s' p))) jNo := by
  have hb := S.bb
  have c110 : 110 ≤ cst p := by unfold cst; omega
  refine st_X1_gets (ls := [some (.ref c), some (.ref a), none]) F rfl (body := fun M X => ?_)
  refine J.aload0 X dX1_gets_0 ?_
  refine J.aload1 X dX1_gets_1 ?_
  refine J.callVa X dX1_gets_2 lk_X1_200_X1 ce_X1_thing (k_thing F S g) (by decide) rfl (S.o.1) rfl (fun r h' e _ => ?_)
  obtain ⟨rfl, rfl⟩ := e
  by_cases hq : k ∈ s.1 1 ∨ k ∈ s.1 2
  · rw [if_pos hq]
    have hkD : k ∈ D := hq.elim (S.dm aq1) (S.dm aq2)
    have tv := S.th hkD
    refine J.astore2 X dX1_gets_5 ?_
    refine J.aload2 X dX1_gets_6 ?_
    refine J.ifnonnullR (tgt := 40) X dX1_gets_7 (by decide) ?_
    refine J.aload0 X dX1_gets_40 ?_
    refine J.dup X dX1_gets_41 ?_
    refine J.getf X dX1_gets_42 fl_X1_49_X1 (S.o.1) rfl ?_
    refine J.iconst (v := nI 1) X dX1_gets_45 (by decide) ?_
    refine J.iaddN X dX1_gets_46 ?_
    refine J.putf X dX1_gets_47 (pl_X1_49_X1 _) (S.o.1) (Nat.le_of_ble_eq_true rfl) (rfl) (rfl) ?_
    have S1 := S.wo (va_up C 4 (C 4 + 1))
    have F1 := S.woF (va_up C 4 (C 4 + 1))
    have g1 := g.fr F1.1.1 (CT.n1 hb)
    show J M (hset hE c (jO 1 (caO (va_up C 4 (C 4 + 1)) y (bS s)))) _ _ _
    generalize hset hE c (jO 1 (caO (va_up C 4 (C 4 + 1)) y (bS s))) = h1 at S1 F1 g1
    refine J.aload0 X dX1_gets_50 ?_
    refine J.dup X dX1_gets_51 ?_
    refine J.getf X dX1_gets_52 fl_X1_58_X1 (S1.o.1) rfl ?_
    refine J.aload2 X dX1_gets_55 ?_
    refine J.getf X dX1_gets_56 fl_X1_188_X7 ((S1.th hkD).1) rfl ?_
    refine J.iaddN X dX1_gets_59 ?_
    refine J.putf X dX1_gets_60 (pl_X1_58_X1 _) (S1.o.1) (Nat.le_of_ble_eq_true rfl) (rfl) (rfl) ?_
    have S2 := S1.wo (va_up (va_up C 4 (C 4 + 1)) 7 (C 7 + s.2.2 1 k))
    have F2 := F1.tr (S1.woF (va_up (va_up C 4 (C 4 + 1)) 7 (C 7 + s.2.2 1 k)))
    have g2 := g.fr F2.1.1 (CT.n1 hb)
    show J M (hset h1 c (jO 1 (caO (va_up (va_up C 4 (C 4 + 1)) 7 (C 7 + s.2.2 1 k)) y (bS s)))) _ _ _
    generalize hset h1 c (jO 1 (caO (va_up (va_up C 4 (C 4 + 1)) 7 (C 7 + s.2.2 1 k)) y (bS s))) = h2 at S2 F2 g2
    have eC : agetC s C k = va_up (va_up C 4 (C 4 + 1)) 7 (C 7 + s.2.2 1 k) := by unfold agetC; rw [if_pos hq]
    have e2 : va_up (va_up C 4 (C 4 + 1)) 7 (C 7 + s.2.2 1 k) 2 = C 2 := rfl
    have e0 : va_up (va_up C 4 (C 4 + 1)) 7 (C 7 + s.2.2 1 k) 0 = C 0 := rfl
    have e1 : va_up (va_up C 4 (C 4 + 1)) 7 (C 7 + s.2.2 1 k) 1 = C 1 := rfl
    have e9 : va_up (va_up C 4 (C 4 + 1)) 7 (C 7 + s.2.2 1 k) 9 = C 9 := rfl
    refine J.aload0 X dX1_gets_63 ?_
    refine J.aload1 X dX1_gets_64 ?_
    refine J.aload2 X dX1_gets_65 ?_
    refine J.callVv X dX1_gets_66 lk_X1_198_X1 ce_X1_hits (k_hits F S2 (by rw [e2]; exact hC2) g2 rfl hq (F2.rm rm (by omega))) (by decide) rfl (S2.o.1) rfl (fun h3 e _ => ?_)
    obtain ⟨tz3, S3, F3⟩ := e
    rw [e2] at S3
    have F4 := F2.tr F3
    refine J.aload0 X dX1_gets_69 ?_
    refine J.callVv X dX1_gets_70 lk_X1_212_X1 ce_X1_trims (k_trims F S3 (by rw [e0]; exact hC0) (by rw [e1]; exact hC1) hp (by rw [e0, e1]; exact hT hq) (F4.rm rm (by omega))) (by decide) rfl (S3.o.1) rfl (fun h5 e _ => ?_)
    obtain ⟨ta', D', tz', S5, cg5, np5⟩ := e
    obtain ⟨fs, cv⟩ := (F4.1.tr cg5.1).2 (by omega) _ _ _ tv
    refine J.aload2 X dX1_gets_73 ?_
    refine J.areturnO X dX1_gets_74 (jRa.ofR ?_)
    refine Or.inr ⟨hq, ta k, fs, ta', D', tz', rfl, cv, ?_, CG.pre (F4.mono (by omega)) cg5, np5⟩
    rw [eC]
    rw [e9] at S5
    exact S5
  · rw [if_neg hq]
    refine J.astore2 X dX1_gets_5 ?_
    refine J.aload2 X dX1_gets_6 ?_
    refine J.ifnonnullN (a := 0) (tgt := 40) X dX1_gets_7 (by decide) ?_
    refine J.aload0 X dX1_gets_10 ?_
    refine J.dup X dX1_gets_11 ?_
    refine J.getf X dX1_gets_12 fl_X1_52_X1 (S.o.1) rfl ?_
    refine J.iconst (v := nI 1) X dX1_gets_15 (by decide) ?_
    refine J.iaddN X dX1_gets_16 ?_
    refine J.putf X dX1_gets_17 (pl_X1_52_X1 _) (S.o.1) (Nat.le_of_ble_eq_true rfl) (rfl) (rfl) ?_
    have S1 := S.wo (va_up C 5 (C 5 + 1))
    have F1 := S.woF (va_up C 5 (C 5 + 1))
    have g1 := g.fr F1.1.1 (CT.n1 hb)
    show J M (hset hE c (jO 1 (caO (va_up C 5 (C 5 + 1)) y (bS s)))) _ _ _
    generalize hset hE c (jO 1 (caO (va_up C 5 (C 5 + 1)) y (bS s))) = h1 at S1 F1 g1
    have hw4 := awhere_le s k
    refine J.aload0 X dX1_gets_20 ?_
    refine J.aload1 X dX1_gets_21 ?_
    refine J.callVi X dX1_gets_22 lk_X1_191_X1 ce_X1_where (k_where F S1 g1) (by decide) rfl (S1.o.1) rfl (fun r h' e _ => ?_)
    obtain ⟨rfl, rfl⟩ := e
    refine J.if_eqN (tgt := 38) X dX1_gets_25 (by decide) (by omega) (fun c1 => ?_) (fun c1 => ?_)
    · skip
      refine J.aconst_null X dX1_gets_38 ?_
      refine J.areturnO X dX1_gets_39 (jRa.ofN ?_)
      refine Or.inl ⟨hq, rfl, ?_, F1⟩
      unfold agetC
      rw [if_neg hq, if_pos c1]
      exact S1
    · skip
      refine J.aload0 X dX1_gets_28 ?_
      refine J.dup X dX1_gets_29 ?_
      refine J.getf X dX1_gets_30 fl_X1_55_X1 (S1.o.1) rfl ?_
      refine J.iconst (v := nI 1) X dX1_gets_33 (by decide) ?_
      refine J.iaddN X dX1_gets_34 ?_
      refine J.putf X dX1_gets_35 (pl_X1_55_X1 _) (S1.o.1) (Nat.le_of_ble_eq_true rfl) (rfl) (rfl) ?_
      refine J.aconst_null X dX1_gets_38 ?_
      refine J.areturnO X dX1_gets_39 (jRa.ofN ?_)
      refine Or.inl ⟨hq, rfl, ?_, F1.tr (S1.woF (va_up (va_up C 5 (C 5 + 1)) 6 (C 6 + 1)))⟩
      unfold agetC
      rw [if_neg hq, if_neg c1]
      exact S1.wo (va_up (va_up C 5 (C 5 + 1)) 6 (C 6 + 1))
