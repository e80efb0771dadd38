/-! Cache: trims -/
/-- how far the room may have gone, what may still be trimmed set off, e times more -/
def CG (b : Nat) (hE : JIH) (tz0 p : Nat) (s0 : AS) (e : Nat) (h : JIH) (tz : Nat) (s : AS) : Prop := FV b hE h ∧ hres h + tz0 + Phi s * cst p ≤ hres hE + (Phi s0 * cst p + e * cst p) + tz
theorem CG.rf (b : Nat) (h : JIH) (tz p : Nat) (s : AS) : CG b h tz p s 0 h tz s := ⟨FV.rf _ _, by omega⟩
theorem CG.st {b : Nat} {hE : JIH} {tz0 p : Nat} {s0 : AS} {e : Nat} {h h' : JIH} {tz tz' : Nat} {s s' : AS} (g : CG b hE tz0 p s0 e h tz s) (f : CF b h tz (cst p) h' tz') (hp : Phi s' + 1 ≤ Phi s) : CG b hE tz0 p s0 e h' tz' s' := by
  refine ⟨g.1.tr f.1, ?_⟩
  have h1 := g.2
  have h2 := f.2
  have h3 : Phi s' * cst p + cst p ≤ Phi s * cst p := by
    have := Nat.mul_le_mul_right (cst p) hp
    rw [Nat.add_mul, Nat.one_mul] at this
    exact this
  omega
theorem CG.up {b : Nat} {hE : JIH} {tz0 p : Nat} {s0 : AS} {e e' : Nat} {h h' : JIH} {tz tz' : Nat} {s : AS} (g : CG b hE tz0 p s0 e h tz s) (f : CF b h tz (cst p) h' tz') (he : e' = e + 1) : CG b hE tz0 p s0 e' h' tz' s := by
  refine ⟨g.1.tr f.1, ?_⟩
  have h1 := g.2
  have h2 := f.2
  subst he
  rw [Nat.add_mul, Nat.one_mul]
  omega
theorem CG.st2 {b : Nat} {hE : JIH} {tz0 p : Nat} {s0 : AS} {e : Nat} {h h' : JIH} {tz tz' : Nat} {s s' : AS} (g : CG b hE tz0 p s0 (e + 1) h tz s) (f : CF b h tz (cst p) h' tz') (hp : Phi s' + 2 ≤ Phi s) : CG b hE tz0 p s0 e h' tz' s' := by
  refine ⟨g.1.tr f.1, ?_⟩
  have h1 := g.2
  have h2 := f.2
  have h3 : Phi s' * cst p + 2 * cst p ≤ Phi s * cst p := by
    have := Nat.mul_le_mul_right (cst p) hp
    rw [Nat.add_mul] at this
    exact this
  rw [Nat.add_mul, Nat.one_mul] at h1
  omega
theorem CG.rm {b : Nat} {hE : JIH} {tz0 p : Nat} {s0 : AS} {e m : Nat} {h : JIH} {tz : Nat} {s : AS} (g : CG b hE tz0 p s0 e h tz s) (r : RM hE tz0 (Phi s0 * cst p + m * cst p)) (he : e + 1 ≤ m) : RM h tz (cst p) := by
  have h1 := g.2
  unfold RM at r ⊢
  have h3 := Nat.mul_le_mul_right (cst p) he
  rw [Nat.add_mul, Nat.one_mul] at h3
  omega
theorem CG.mono {b : Nat} {hE : JIH} {tz0 p : Nat} {s0 : AS} {e e' : Nat} {h : JIH} {tz : Nat} {s : AS} (g : CG b hE tz0 p s0 e h tz s) (he : e ≤ e') : CG b hE tz0 p s0 e' h tz s := by
  refine ⟨g.1, ?_⟩
  have h1 := g.2
  have h3 := Nat.mul_le_mul_right (cst p) he
  omega
theorem k_fades {K : JK} {l : Launch} {hE hS : JIH} {b c tz0 e m : Nat} {y : CY} {s s0 s3 s' : AS} {C : Nat → Nat} {G : List Nat} {ta : Nat → Nat} {D : List Nat} {tz p arr fu : Nat} {f : Nat → Option Nat} (F : JF K) (S : CC K b hE c y s C G ta D tz) (hC : C 0 < 1000) (hp : NP s p) (ca : hc hE 9 arr (jAR K 8 2 f)) (hf0 : f 0 = some (y.1 3)) (hf1 : f 1 = some (y.1 4)) (h3 : afade (C 0) 3 fu s = some s3) (h4 : afade (C 0) 4 fu s3 = some s') (cg : CG b hS tz0 p s0 e hE tz s) (rm : RM hS tz0 (Phi s0 * cst p + m * cst p)) (hm : e + 1 ≤ m) :
    Ct K l yX1_fades wX1_fades 7 [.ref c, .ref arr] hE (jRv (fun h' => CC K b h' c y s' C G ta D tz ∧ CG b hS tz0 p s0 e h' tz s')) jNo := by
  have hb := S.bb
  refine st_X1_fades (ls := [some (.ref c), some (.ref arr), none]) F rfl (body := fun M X => ?_)
  have lp : ∀ (i j : Nat), i = 3 ∨ i = 4 → j < 2 → f j = some (y.1 i) → ∀ (fu : Nat) (s s' : AS) (h : JIH), afade (C 0) i fu s = some s' → CC K b h c y s C G ta D tz → NP s p → hc h 9 arr (jAR K 8 2 f) → CG b hS tz0 p s0 e h tz s → (∀ h : JIH, CC K b h c y s' C G ta D tz → NP s' p → hc h 9 arr (jAR K 8 2 f) → CG b hS tz0 p s0 e h tz s' → J M h 31 [some (.ref c), some (.ref arr), some (.int (nI j))] []) → J M h 8 [some (.ref c), some (.ref arr), some (.int (nI j))] [] := by
    intro i j hi34 hj hfj fu
    have hi : aq i := ⟨by omega, by omega⟩
    induction fu with
    | zero => intro s s' h hf; cases hf
    | succ fu ih =>
      intro s s' h hf S hp ca cg kk
      unfold afade at hf
      have hws := wsum_le S.aw hi
      refine J.aload1 X dX1_fades_8 ?_
      refine J.iload2 X dX1_fades_9 ?_
      refine J.aald X dX1_fades_10 (ca.1) rfl (rfl) (hj) ?_
      rw [hfj]
      refine J.getf X dX1_fades_11 fl_X1_157_X2 ((S.q hi).1) rfl ?_
      refine J.topi (y := nI (wsum s i)) (rfl) ?_
      refine J.aload0 X dX1_fades_14 ?_
      refine J.getf X dX1_fades_15 fl_X1_9_X1 (S.o.1) rfl ?_
      refine J.icmp_leN (tgt := 31) X dX1_fades_18 (by decide) (by omega) (by omega) (fun c1 => ?_) (fun c1 => ?_)
      · skip
        rw [if_neg (by omega)] at hf
        cases hf
        exact kk _ S hp ca cg
      · skip
        rw [if_pos (by omega)] at hf
        refine J.aload1 X dX1_fades_21 ?_
        refine J.iload2 X dX1_fades_22 ?_
        refine J.aald X dX1_fades_23 (ca.1) rfl (rfl) (hj) ?_
        rw [hfj]
        refine J.callVa X dX1_fades_24 lk_X1_133_X2 ce_X2_oldest (k_oldest F S hi (hp i hi) ((cg.rm rm hm).mono (by unfold cst; omega))) (by decide) rfl ((S.q hi).1) rfl (fun r h1 e _ => ?_)
        rcases e with ⟨z1, rfl, S1, F1⟩ | ⟨k, g, a, z1, rfl, cgo, ka, S1, F1⟩
        · rw [z1] at hf
          cases hf
        · rw [z1] at hf
          have hk := aold_some z1
          refine J.pop X dX1_fades_27 ?_
          refine J.goto (tgt := 8) X dX1_fades_28 (by decide) ?_
          exact ih _ _ _ hf S1 hp.out (ca.fr F1.1.1 (by unfold CT; omega)) (cg.st (F1.mono (by unfold cst; omega)) (by rw [Phi.out hi34 hk.1]; exact Nat.le_refl _)) kk
  refine J.iconst (v := nI 0) X dX1_fades_0 (by decide) ?_
  refine J.istore2 X dX1_fades_1 ?_
  refine J.iload2 X dX1_fades_2 ?_
  refine J.aload1 X dX1_fades_3 ?_
  refine J.alen (t := 8) (v := nI 2) X dX1_fades_4 (ca.1) rfl (rfl) ?_
  refine J.icmp_geN (tgt := 37) X dX1_fades_5 (by decide) (by omega) (by omega) (fun q9 => absurd q9 (by omega)) (fun _ => ?_)
  refine lp 3 0 (Or.inl rfl) (by decide) hf0 fu s s3 hE h3 S hp ca cg (fun h S hp ca cg => ?_)
  refine J.iinc2N (d := 1) X dX1_fades_31 (by decide) ?_
  refine J.goto (tgt := 2) X dX1_fades_34 (by decide) ?_
  refine J.iload2 X dX1_fades_2 ?_
  refine J.aload1 X dX1_fades_3 ?_
  refine J.alen (t := 8) (v := nI 2) X dX1_fades_4 (ca.1) rfl (rfl) ?_
  refine J.icmp_geN (tgt := 37) X dX1_fades_5 (by decide) (by omega) (by omega) (fun q9 => absurd q9 (by omega)) (fun _ => ?_)
  refine lp 4 1 (Or.inr rfl) (by decide) hf1 fu s3 s' h h4 S hp ca cg (fun h S hp ca cg => ?_)
  refine J.iinc2N (d := 1) X dX1_fades_31 (by decide) ?_
  refine J.goto (tgt := 2) X dX1_fades_34 (by decide) ?_
  refine J.iload2 X dX1_fades_2 ?_
  refine J.aload1 X dX1_fades_3 ?_
  refine J.alen (t := 8) (v := nI 2) X dX1_fades_4 (ca.1) rfl (rfl) ?_
  refine J.icmp_geN (tgt := 37) X dX1_fades_5 (by decide) (by omega) (by omega) (fun _ => ?_) (fun q9 => absurd q9 (by omega))
  refine J.vreturn X dX1_fades_37 (jRv.of ?_)
  exact ⟨S, cg⟩
theorem k_trims {K : JK} {l : Launch} {hE : JIH} {b c : Nat} {y : CY} {s : AS} {C : Nat → Nat} {G : List Nat} {ta : Nat → Nat} {D : List Nat} {tz : Nat}  (F : JF K) (S : CC K b hE c y s C G ta D tz) (hC : C 0 < 1000) (hC1 : C 1 < 1000) {p fu : Nat} {s' : AS} {gs : List Nat} (hp : NP s p) (hT : atrim (C 0) (C 1) fu s s' gs) (rm : RM hE tz (Phi s * cst p + 6 * cst p)) :
    Ct K l yX1_trims wX1_trims 10 [.ref c] hE (jRv (fun h' => ∃ ta' D' tz', CC K b h' c y s' (va_up C 9 (C 9 + gs.length)) ((gs ++ G).take 20) ta' D' tz' ∧ CG b hE tz p s 4 h' tz' s' ∧ NP s' p)) jNo := by
  have hb := S.bb
  obtain ⟨s1, s2, s3, t1, t2, t3, t4⟩ := hT
  refine st_X1_trims (ls := [some (.ref c), none]) F rfl (body := fun M X => ?_)
  have G0 : (([] : List Nat) ++ G).take 20 = G := by rw [List.nil_append, List.take_of_length_le S.gl]
  have C0 : va_up C 9 (C 9 + ([] : List Nat).length) = C := by
    show va_up C 9 (C 9) = C
    exact va_upid C 9
  -- the ghosts
  have fin : ∀ (h : JIH) (C' : Nat → Nat) (G' : List Nat) (ta : Nat → Nat) (D : List Nat) (tz1 : Nat) (x : Option Value), C' 0 = C 0 → CC K b h c y s2 C' G' ta D tz1 → NP s2 p → CG b hE tz p s 3 h tz1 s2 → C' = va_up C 9 (C 9 + gs.length) → G' = (gs ++ G).take 20 → J M h 68 [some (.ref c), x] [] := by
    intro h C' G' ta D tz1 x hC0 S hp cg eC eG
    have r8 := S.rm8 (cg.rm rm (by decide))
    have c110 : 110 ≤ cst p := by unfold cst; omega
    refine J.aload0 X dX1_trims_68 ?_
    refine J.iconst (v := nI 2) X dX1_trims_69 (by decide) ?_
    refine J.newR (tt := 8) (n := 2) 9 X dX1_trims_70 cl_X1_24 q1978 rfl rfl (by decide) (by omega) ?_
    have f1 := Fr.push (fun x => x = 6) h 9 (jAR K 8 2 (fun _ => none))
    have e1 : hres (hpush h 9 (jAR K 8 2 (fun _ => none))) = hres h + 10 := hres_push h 9 (jAR K 8 2 (fun _ => none))
    have ca := hc.new h 9 (jAR K 8 2 (fun _ => none))
    have S1 := S.fr f1 (b6 hb) (by decide)
    refine J.dup X dX1_trims_73 ?_
    refine J.iconst (v := nI 0) X dX1_trims_74 (by decide) ?_
    refine J.aload0 X dX1_trims_75 ?_
    refine J.getf X dX1_trims_76 fl_X1_36_X1 (S1.o.1) rfl ?_
    refine J.aastS X dX1_trims_79 ca.1 (S1.q aq3).1 jcl_2 rfl rfl (by decide) ?_
    have f2 : Fr (fun x => x = 9) (hpush h 9 (jAR K 8 2 (fun _ => none))) (hset (hpush h 9 (jAR K 8 2 (fun _ => none))) (hnew h) (jAR K 8 2 (va_up (fun _ => none) 0 (some (y.1 3))))) := Fr.set ca rfl
    have S2 := S1.fr f2 (by omega) (by decide)
    refine J.dup X dX1_trims_80 ?_
    refine J.iconst (v := nI 1) X dX1_trims_81 (by decide) ?_
    refine J.aload0 X dX1_trims_82 ?_
    refine J.getf X dX1_trims_83 fl_X1_39_X1 (S2.o.1) rfl ?_
    refine J.aastS X dX1_trims_86 (ca.same _).1 (S2.q aq4).1 jcl_2 rfl rfl (by decide) ?_
    rw [hset_push_new, hset_push_new]
    have f3 := Fr.push (fun x => x = 6) h 9 (jAR K 8 2 (va_up (va_up (fun _ => none) 0 (some (y.1 3))) 1 (some (y.1 4))))
    have e3 : hres (hpush h 9 (jAR K 8 2 (va_up (va_up (fun _ => none) 0 (some (y.1 3))) 1 (some (y.1 4))))) = hres h + 10 := hres_push h 9 (jAR K 8 2 (va_up (va_up (fun _ => none) 0 (some (y.1 3))) 1 (some (y.1 4))))
    have ca3 := hc.new h 9 (jAR K 8 2 (va_up (va_up (fun _ => none) 0 (some (y.1 3))) 1 (some (y.1 4))))
    have S3 := S.fr f3 (b6 hb) (by decide)
    have cg3 := cg.up (e' := 4) (h' := hpush h 9 (jAR K 8 2 (va_up (va_up (fun _ => none) 0 (some (y.1 3))) 1 (some (y.1 4))))) (tz' := tz1) ⟨fr_6 f3, by omega⟩ rfl
    clear S1 S2 f1 f2 e1 ca
    generalize hpush h 9 (jAR K 8 2 (va_up (va_up (fun _ => none) 0 (some (y.1 3))) 1 (some (y.1 4)))) = h3 at ca3 S3 cg3
    generalize hnew h = arr at ca3
    rw [← hC0] at t3 t4
    refine J.callVv X dX1_trims_87 lk_X1_167_X1 ce_X1_fades (k_fades F S3 (by rw [hC0]; exact hC) hp ca3 (by rw [va_up_ne _ _ (by decide), va_up_self]) (va_up_self _ _ _) t3 t4 cg3 rm (by decide)) (by decide) rfl (S3.o.1) rfl (fun h4 e _ => ?_)
    obtain ⟨S4, cg4⟩ := e
    refine J.vreturn X dX1_trims_90 (jRv.of ?_)
    have hps : ∀ (i fu : Nat) (s s' : AS), NP s p → afade (C' 0) i fu s = some s' → NP s' p := by
      intro i fu
      induction fu with
      | zero => intro s s' _ h; cases h
      | succ fu ih =>
        intro s s' hp h
        unfold afade at h
        split at h
        · split at h
          · cases h
          · exact ih _ _ hp.out h
        · cases h; exact hp
    rw [← eC, ← eG]
    exact ⟨ta, D, tz1, S4, cg4, hps _ _ _ _ (hps _ _ _ _ hp t3) t4⟩
  -- what is let go
  have lets : ∀ (fu : Nat) (s1 : AS) (gs1 : List Nat) (h : JIH) (ta : Nat → Nat) (D : List Nat) (tz1 : Nat), alets (C 0) fu s1 gs1 = some (s2, gs) → CC K b h c y s1 (va_up C 9 (C 9 + gs1.length)) ((gs1 ++ G).take 20) ta D tz1 → NP s1 p → CG b hE tz p s 1 h tz1 s1 → J M h 30 [some (.ref c), some (.int (nI 1))] [] := by
    intro fu
    induction fu with
    | zero => intro s1 gs1 h ta D tz1 hf; cases hf
    | succ fu ih =>
      intro s1 gs1 h ta D tz1 hf S hp cg
      unfold alets at hf
      have A := S.aw
      have hw1 := wsum_le A aq1
      have hw2 := wsum_le A aq2
      have hC0 : va_up C 9 (C 9 + gs1.length) 0 = C 0 := va_up_ne _ _ (by decide)
      refine J.iload1 X dX1_trims_30 ?_
      refine J.if_eqN (tgt := 68) X dX1_trims_31 (by decide) (by omega) (fun q9 => absurd q9 (by omega)) (fun _ => ?_)
      refine J.aload0 X dX1_trims_34 ?_
      refine J.getf X dX1_trims_35 fl_X1_67_X1 (S.o.1) rfl ?_
      refine J.topi (y := nI (wsum s1 1 + wsum s1 2)) (rfl) ?_
      refine J.aload0 X dX1_trims_38 ?_
      refine J.getf X dX1_trims_39 fl_X1_9_X1 (S.o.1) rfl ?_
      rw [hC0]
      refine J.icmp_leN (tgt := 68) X dX1_trims_42 (by decide) (by omega) (by omega) (fun c1 => ?_) (fun c1 => ?_)
      · skip
        rw [if_neg (by omega)] at hf
        cases hf
        exact fin _ _ _ _ _ _ _ hC0 S hp (cg.mono (by decide)) rfl rfl
      · skip
        rw [if_pos (by omega)] at hf
        refine J.aload0 X dX1_trims_45 ?_
        refine J.callVi X dX1_trims_46 lk_X1_161_X1 ce_X1_goesFromProbation (k_gfp F S hp (cg.rm rm (by decide))) (by decide) rfl (S.o.1) rfl (fun r h1 e _ => ?_)
        rcases e with ⟨z1, rfl, S1, F1⟩ | ⟨k, ta1, D1, tz2, z1, rfl, z2, F1⟩
        · rw [z1] at hf
          have cg1 := cg.up (e' := 2) F1 rfl
          refine J.if_neN (tgt := 59) X dX1_trims_49 (by decide) (by omega) (fun q9 => absurd q9 (by omega)) (fun _ => ?_)
          refine J.aload0 X dX1_trims_52 ?_
          refine J.callVi X dX1_trims_53 lk_X1_164_X1 ce_X1_goesFromProtected (k_gfg F S1 hp (cg1.rm rm (by decide))) (by decide) rfl (S1.o.1) rfl (fun r h2 e _ => ?_)
          rcases e with ⟨z2, rfl, S2, F2⟩ | ⟨k, ta2, D2, tz2, z2, rfl, S2, F2⟩
          · rw [z2] at hf
            cases hf
            refine J.if_eqN (tgt := 63) X dX1_trims_56 (by decide) (by omega) (fun _ => ?_) (fun q9 => absurd q9 (by omega))
            refine J.iconst (v := nI 0) X dX1_trims_63 (by decide) ?_
            refine J.istore1 X dX1_trims_64 ?_
            refine J.goto (tgt := 30) X dX1_trims_65 (by decide) ?_
            refine J.iload1 X dX1_trims_30 ?_
            refine J.if_eqN (tgt := 68) X dX1_trims_31 (by decide) (by omega) (fun _ => ?_) (fun q9 => absurd q9 (by omega))
            exact fin _ _ _ _ _ _ _ hC0 S2 hp (cg1.up F2 rfl) rfl rfl
          · rw [z2] at hf
            have hk := aold_some z2
            refine J.if_eqN (tgt := 63) X dX1_trims_56 (by decide) (by omega) (fun q9 => absurd q9 (by omega)) (fun _ => ?_)
            refine J.iconst (v := nI 1) X dX1_trims_59 (by decide) ?_
            refine J.goto (tgt := 64) X dX1_trims_60 (by decide) ?_
            refine J.istore1 X dX1_trims_64 ?_
            refine J.goto (tgt := 30) X dX1_trims_65 (by decide) ?_
            rw [va_up_self, va_up_up] at S2
            refine ih _ (k :: gs1) _ ta2 D2 _ hf ?_ (hp.go A aq2 hk.1) (cg1.st2 F2 (Phi.go2 A hk.1))
            rw [List.length_cons, ← Nat.add_assoc]
            have eG : ((k :: gs1) ++ G).take 20 = (k :: (gs1 ++ G).take 20).take 20 := by
              rw [List.cons_append, List.take_succ_cons, List.take_succ_cons, List.take_take]
              rfl
            rw [eG]
            exact S2
        · rw [z1] at hf
          have hk := aold_some z1
          refine J.if_neN (tgt := 59) X dX1_trims_49 (by decide) (by omega) (fun _ => ?_) (fun q9 => absurd q9 (by omega))
          rcases z2 with ⟨hc, S2⟩ | ⟨hc, S2⟩
          · replace hf : alets (C 0) fu (alife s1 k) gs1 = some (s2, gs) := by rw [← hf]; exact (if_pos hc).symm
            refine J.iconst (v := nI 1) X dX1_trims_59 (by decide) ?_
            refine J.goto (tgt := 64) X dX1_trims_60 (by decide) ?_
            refine J.istore1 X dX1_trims_64 ?_
            refine J.goto (tgt := 30) X dX1_trims_65 (by decide) ?_
            exact ih _ gs1 _ _ _ _ hf S2 (hp.life hk.2) (cg.st F1 (by rw [Phi.life A hk.1 hc]; exact Nat.le_refl _))
          · replace hf : alets (C 0) fu (ago s1 1 k 3) (k :: gs1) = some (s2, gs) := by rw [← hf]; exact (if_neg hc).symm
            refine J.iconst (v := nI 1) X dX1_trims_59 (by decide) ?_
            refine J.goto (tgt := 64) X dX1_trims_60 (by decide) ?_
            refine J.istore1 X dX1_trims_64 ?_
            refine J.goto (tgt := 30) X dX1_trims_65 (by decide) ?_
            rw [va_up_self, va_up_up] at S2
            refine ih _ (k :: gs1) _ ta1 D1 _ hf ?_ (hp.go A aq1 hk.1) (cg.st F1 (Phi.go1 A hk.1))
            rw [List.length_cons, ← Nat.add_assoc]
            have eG : ((k :: gs1) ++ G).take 20 = (k :: (gs1 ++ G).take 20).take 20 := by
              rw [List.cons_append, List.take_succ_cons, List.take_succ_cons, List.take_take]
              rfl
            rw [eG]
            exact S2
  -- what sinks
  have sinks : ∀ (f1 : Nat) (s0 : AS) (h : JIH) (tz1 : Nat), asinks (C 1) f1 s0 = some s1 → CC K b h c y s0 C G ta D tz1 → NP s0 p → CG b hE tz p s 0 h tz1 s0 → J M h 2 [some (.ref c), some (.int (nI 1))] [] := by
    intro f1
    induction f1 with
    | zero => intro s0 h tz1 hf; cases hf
    | succ f1 ih =>
      intro s0 h tz1 hf S hp cg
      unfold asinks at hf
      have A := S.aw
      have hw2 := wsum_le A aq2
      refine J.iload1 X dX1_trims_2 ?_
      refine J.if_eqN (tgt := 28) X dX1_trims_3 (by decide) (by omega) (fun q9 => absurd q9 (by omega)) (fun _ => ?_)
      refine J.aload0 X dX1_trims_6 ?_
      refine J.getf X dX1_trims_7 fl_X1_33_X1 (S.o.1) rfl ?_
      refine J.getf X dX1_trims_10 fl_X1_157_X2 ((S.q aq2).1) rfl ?_
      refine J.topi (y := nI (wsum s0 2)) (rfl) ?_
      refine J.aload0 X dX1_trims_13 ?_
      refine J.getf X dX1_trims_14 fl_X1_15_X1 (S.o.1) rfl ?_
      refine J.icmp_leN (tgt := 28) X dX1_trims_17 (by decide) (by omega) (by omega) (fun c1 => ?_) (fun c1 => ?_)
      · skip
        rw [if_neg (by omega)] at hf
        cases hf
        refine J.iconst (v := nI 1) X dX1_trims_28 (by decide) ?_
        refine J.istore1 X dX1_trims_29 ?_
        exact lets fu s1 [] _ ta D _ t2 (by rw [C0, G0]; exact S) hp (cg.mono (by decide))
      · skip
        rw [if_pos (by omega)] at hf
        refine J.aload0 X dX1_trims_20 ?_
        refine J.callVi X dX1_trims_21 lk_X1_158_X1 ce_X1_falls (k_falls F S hp (cg.rm rm (by decide))) (by decide) rfl (S.o.1) rfl (fun r h1 e _ => ?_)
        rcases e with ⟨z1, rfl, S1, F1⟩ | ⟨k, tz2, z1, rfl, S1, F1⟩
        · rw [z1] at hf
          cases hf
          refine J.istore1 X dX1_trims_24 ?_
          refine J.goto (tgt := 2) X dX1_trims_25 (by decide) ?_
          refine J.iload1 X dX1_trims_2 ?_
          refine J.if_eqN (tgt := 28) X dX1_trims_3 (by decide) (by omega) (fun _ => ?_) (fun q9 => absurd q9 (by omega))
          refine J.iconst (v := nI 1) X dX1_trims_28 (by decide) ?_
          refine J.istore1 X dX1_trims_29 ?_
          exact lets fu s1 [] _ ta D _ t2 (by rw [C0, G0]; exact S1) hp (cg.up F1 rfl)
        · rw [z1] at hf
          have hk := aold_some z1
          refine J.istore1 X dX1_trims_24 ?_
          refine J.goto (tgt := 2) X dX1_trims_25 (by decide) ?_
          exact ih _ _ _ hf S1 (hp.fall hk.2) (cg.st F1 (by rw [Phi.fall A hk.1]; exact Nat.le_refl _))
  refine J.iconst (v := nI 1) X dX1_trims_0 (by decide) ?_
  refine J.istore1 X dX1_trims_1 ?_
  exact sinks fu s hE tz t1 S hp (CG.rf _ _ _ _ _)
