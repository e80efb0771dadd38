/-! Sketch: puts -/
/-- the weight of a thing changes -/
theorem SQ.chg {s : AS} {wh : Nat → Nat} {nx ah fi la : Nat → Option Nat} {to : Nat → Int32} (S : SQ s wh nx ah fi la to) (A : AW s) {i k x co : Nat} {v : Int32} (hi : aq i) (hk : k ∈ s.1 i) (hco : co ≤ 99) : SQ (achg s k v x co) wh nx ah fi la (upd to i (to i + (nI x - nI (s.2.2 0 k)))) := by
  have A1 : AW (upL s k v) := A
  have e1 : ∀ j, wsum (upV (upL s k v) 1 k co) j = wsum s j := fun j => wsum_V (s := upL s k v) (by decide)
  refine ⟨fun j hj => ?_, S.2⟩
  obtain ⟨d1, d2, d3, d4⟩ := S.1 j hj
  refine ⟨d1, d2, d3, ?_⟩
  rw [upd_at]
  show _ = nI (wsum (achg s k v x co) j)
  by_cases e : j = i
  · subst e
    rw [if_pos rfl, d4]
    refine nI_ws ?_
    have := wsum_w (s := upV (upL s k v) 1 k co) (x := x) (A1.V (Or.inl ⟨rfl, hco⟩)) hj (k := k) hk
    rw [e1] at this
    exact this
  · rw [if_neg e, d4]
    show nI (wsum s j) = _
    congr 1
    unfold achg
    rw [wsum_w0 (s := upV (upL s k v) 1 k co) (fun z => e (A.1 j i k hj hi z hk)), e1]
theorem SD.chg {D : Nat → Prop} {s : AS} {wt ht ch : Nat → Int32} {pn : Nat → Nat} (h : SD D s wt ht ch pn) (k x co : Nat) (v : Int32) : SD D (achg s k v x co) (upd wt k (nI x)) ht ch pn := by
  refine SD.wt (s := upV (upL s k v) 1 k co) (fun j hj => ?_) k x
  rw [upV_ne, upV_ne, upV_ne, upV_ne]
  · exact h j hj
  all_goals decide
theorem sa_puts {K : JK} {l : Launch} {hE : JIH} {t B : Nat} {s : AS} {C : Nat → Nat} {e : Nat} {D : Nat → Prop}  (F : JF K) (S : SA K t hE B s C e D) (hC0 : C 0 < 900) (hC1 : C 1 < 900) (hC2 : C 2 < 1000) (hC3 : C 3 ≤ 9) {k x co fu : Nat} {v : Int32} (hk : k < 400) {s' : AS} {gs : List Nat} (hx : 1 ≤ x ∧ x ≤ 9) (hco : co ≤ 99) (hT : atrim (aputC s C k x co 0) (aputC s C k x co 1) fu (aputS s C k v x co) s' gs) :
    Ct K l yX3_puts wX3_puts 5 [.ref B, .int (nI k), .int (nI x)] hE (jRv (fun h' => ∃ e' D', SA K t h' B s' (va_up (aputC s C k x co) 9 (aputC s C k x co 9 + gs.length)) e' D' ∧ SF t hE h')) jNo := by
  have S0 := S
  obtain ⟨wh, nx, ah, wt, ht, ch, pn, fi, la, to, T, g1, g2, g3, g4, g5, A⟩ := S
  have hwh := g2.wh hk
  have hw4 := (g2.2 k hk).1
  have hCt : aputC s C k x co 0 < 1000 ∧ aputC s C k x co 1 < 1000 := by
    unfold aputC
    split
    · exact ⟨by omega, by omega⟩
    · refine ⟨by rw [va_up_ne _ _ (by decide), va_up_ne _ _ (by decide)]; omega, ?_⟩
      rw [va_up_self]
      split
      · omega
      · split
        · omega
        · omega
  refine st_X3_puts (ls := [some (.ref B), some (.int (nI k)), some (.int (nI x)), none]) F rfl (body := fun M X => ?_)
  have S := T.S
  have fin : ∀ (h : JIH) (e1 : Nat) (D1 : Nat → Prop) (x3 : Option Value), SA K t h B (aputS s C k v x co) (aputC s C k x co) e1 D1 → SF t hE h → J M h 119 [some (.ref B), some (.int (nI k)), some (.int (nI x)), x3] [] := fun h e1 D1 x3 S1 f1 => by
    clear S
    obtain ⟨wh, nx, ah, wt, ht, ch, pn, fi, la, to, S, w⟩ := S1.ex
    refine J.aload0 X dX3_puts_119 ?_
    refine J.callVv X dX3_puts_120 lk_X3_192_X3 ce_X3_trims (sa_trims F S1 hCt.1 hCt.2 hT) (by decide) rfl (S.o) rfl (fun h3 e3 _ => ?_)
    obtain ⟨e', D', S3, f3⟩ := e3
    refine J.vreturn X dX3_puts_123 (jRv.of ?_)
    exact ⟨e', D', S3, f1.tr f3⟩
  refine J.aload0 X dX3_puts_0 ?_
  refine J.iload1 X dX3_puts_1 ?_
  refine J.callVi X dX3_puts_2 lk_X3_186_X3 ce_X3_isThing (sa_isThing F S0 hk) (by decide) rfl (S.o) rfl (fun r h1 e1 _ => ?_)
  obtain ⟨rfl, rfl⟩ := e1
  refine J.if_eqB (tgt := 45) X dX3_puts_5 (by decide) (fun c1 => ?_) (fun c1 => ?_)
  · skip
    refine J.aload0 X dX3_puts_45 ?_
    refine J.iload1 X dX3_puts_46 ?_
    refine J.callVi X dX3_puts_47 lk_X3_150_X3 ce_X3_loses (sa_loses F S0 hk) (by decide) rfl (S.o) rfl (fun r h2 e2 _ => ?_)
    obtain ⟨rfl, S2, f2⟩ := e2
    have a4 := awhere_le s k
    have ec : aputC s C k x co = va_up (va_up C 8 (C 8 + co)) 1 (if awhere s k = 3 then C 1 - x else if awhere s k = 4 then min (C 0) (C 1 + x) else C 1) := by unfold aputC; rw [if_neg c1]
    have es : aputS s C k v x co = ain (anew (adrop s k) k v x co (if awhere s k = 0 then C 3 else 0)) (if awhere s k = 0 then 1 else 2) k := by unfold aputS; rw [if_neg c1]
    have e3 : aputC s C k x co 3 = C 3 := by rw [ec, va_up_ne _ _ (by decide), va_up_ne _ _ (by decide)]
    have hkq := fun j hj => drop_not A k (j := j) hj
    have mid : ∀ (h : JIH) (D1 : Nat → Prop), SA K t h B (adrop s k) (aputC s C k x co) e D1 → SF t hE h → J M h 92 [some (.ref B), some (.int (nI k)), some (.int (nI x)), some (.int (nI (awhere s k)))] [] := fun h D1 S3 f3 => by
      clear S
      obtain ⟨wh, nx, ah, wt, ht, ch, pn, fi, la, to, S, w⟩ := S3.ex
      refine J.aload0 X dX3_puts_92 ?_
      refine J.iload1 X dX3_puts_93 ?_
      refine J.iload2 X dX3_puts_94 ?_
      refine J.iload3 X dX3_puts_95 ?_
      refine J.if_neN (tgt := 106) X dX3_puts_96 (by decide) (by omega) (fun c0 => ?_) (fun c0 => ?_)
      · skip
        have c0' : awhere s k ≠ 0 := c0
        refine J.iconst (v := nI 0) X dX3_puts_106 (by decide) ?_
        refine J.iload3 X dX3_puts_107 ?_
        refine J.if_neN (tgt := 115) X dX3_puts_108 (by decide) (by omega) (fun _ => ?_) (fun q9 => absurd q9 (by omega))
        refine J.iconst (v := nI 2) X dX3_puts_115 (by decide) ?_
        refine J.callVv X dX3_puts_116 lk_X3_101_X3 ce_X3_comes (sa_comes (v := v) (co := co) F S3 aq2 hk hkq hx (Nat.zero_le 9) hco) (by decide) rfl (S.o) rfl (fun h4 e4 _ => ?_)
        refine fin _ e (fun j => j = k ∨ D1 j) _ ?_ (f3.tr e4.2)
        rw [es, if_neg c0', if_neg c0']
        exact e4.1
      · skip
        have c0' : awhere s k = 0 := c0
        refine J.aload0 X dX3_puts_99 ?_
        refine J.getf X dX3_puts_100 fl_X3_127_X3 (S.o) rfl ?_
        refine J.topi (y := nI ((C 3))) ((by rw [e3])) ?_
        refine J.goto (tgt := 107) X dX3_puts_103 (by decide) ?_
        refine J.iload3 X dX3_puts_107 ?_
        refine J.if_neN (tgt := 115) X dX3_puts_108 (by decide) (by omega) (fun q9 => absurd q9 (by omega)) (fun _ => ?_)
        refine J.iconst (v := nI 1) X dX3_puts_111 (by decide) ?_
        refine J.goto (tgt := 116) X dX3_puts_112 (by decide) ?_
        refine J.callVv X dX3_puts_116 lk_X3_101_X3 ce_X3_comes (sa_comes (v := v) (co := co) F S3 aq1 hk hkq hx hC3 hco) (by decide) rfl (S.o) rfl (fun h4 e4 _ => ?_)
        refine fin _ e (fun j => j = k ∨ D1 j) _ ?_ (f3.tr e4.2)
        rw [es, if_pos c0', if_pos c0']
        exact e4.1
    clear S T g1 g2 g3 g4 g5
    obtain ⟨wh, nx, ah, wt, ht, ch, pn, fi, la, to, T, g1, g2, g3, g4, g5, A2⟩ := S2
    have S := T.S
    refine J.istore3 X dX3_puts_50 ?_
    refine J.iload3 X dX3_puts_51 ?_
    refine J.iconst (v := nI 3) X dX3_puts_52 (by decide) ?_
    refine J.icmp_neN (tgt := 70) X dX3_puts_53 (by decide) (by omega) (by omega) (fun d3 => ?_) (fun d3 => ?_)
    · skip
      refine J.iload3 X dX3_puts_70 ?_
      refine J.iconst (v := nI 4) X dX3_puts_71 (by decide) ?_
      refine J.icmp_neN (tgt := 92) X dX3_puts_72 (by decide) (by omega) (by omega) (fun d4 => ?_) (fun d4 => ?_)
      · skip
        have ec2 : aputC s C k x co = va_up (va_up C 8 (C 8 + co)) 1 (C 1) := by rw [ec, if_neg d3, if_neg d4]
        refine mid h2 D ?_ f2
        rw [ec2]
        exact ⟨_, _, _, _, _, _, _, _, _, _, T, g1, g2, g3, g4, g5, A2⟩
      · skip
        have d4' : awhere s k = 4 := d4
        have ec2 : aputC s C k x co = va_up (va_up C 8 (C 8 + co)) 1 (min (C 0) (C 1 + x)) := by rw [ec, if_neg d3, if_pos d4']
        refine J.aload0 X dX3_puts_75 ?_
        refine J.aload0 X dX3_puts_76 ?_
        refine J.getf X dX3_puts_77 fl_X3_115_X3 (S.o) rfl ?_
        refine J.topi (y := nI ((C 0))) (rfl) ?_
        refine J.aload0 X dX3_puts_80 ?_
        refine J.getf X dX3_puts_81 fl_X3_119_X3 (S.o) rfl ?_
        refine J.topi (y := nI ((C 1))) (rfl) ?_
        refine J.iload2 X dX3_puts_84 ?_
        refine J.iaddN X dX3_puts_85 ?_
        refine J.mmin X dX3_puts_86 q2463 (by decide) ?_
        refine J.topi (y := nI (min (C 0) (C 1 + x))) (mmin_nI (by omega) (by omega)) ?_
        refine J.sk_s1 X dX3_puts_89 (pl_X3_119_X3 _) S (rfl) (rfl) (fun h S => ?_)
        refine mid _ D ?_ (f2.tr (S.2.SF g1).1)
        rw [ec2]
        exact ⟨_, _, _, _, _, _, _, _, _, _, S.1, (S.2.SF g1).2, g2, g3, g4, g5, A2⟩
    · skip
      have d3' : awhere s k = 3 := d3
      have ec2 : aputC s C k x co = va_up (va_up C 8 (C 8 + co)) 1 (C 1 - x) := by rw [ec, if_pos d3']
      refine J.aload0 X dX3_puts_56 ?_
      refine J.iconst (v := nI 0) X dX3_puts_57 (by decide) ?_
      refine J.aload0 X dX3_puts_58 ?_
      refine J.getf X dX3_puts_59 fl_X3_119_X3 (S.o) rfl ?_
      refine J.iload2 X dX3_puts_62 ?_
      refine J.isub X dX3_puts_63 ?_
      refine J.mmax X dX3_puts_64 q2476 (by decide) ?_
      refine J.topi (y := nI (C 1 - x)) (mmax_sub (show C 1 < 1000 by omega) (by omega)) ?_
      refine J.sk_s1 X dX3_puts_67 (pl_X3_119_X3 _) S (rfl) (rfl) (fun h S => ?_)
      refine J.iload3 X dX3_puts_70 ?_
      refine J.iconst (v := nI 4) X dX3_puts_71 (by decide) ?_
      refine J.icmp_neN (tgt := 92) X dX3_puts_72 (by decide) (by omega) (by omega) (fun _ => ?_) (fun q9 => absurd q9 (by omega))
      refine mid _ D ?_ (f2.tr (S.2.SF g1).1)
      rw [ec2]
      exact ⟨_, _, _, _, _, _, _, _, _, _, S.1, (S.2.SF g1).2, g2, g3, g4, g5, A2⟩
  · skip
    have ha : ∃ i, aq i ∧ k ∈ s.1 i ∧ i ≤ 2 := c1.elim (fun z => ⟨1, aq1, z, by decide⟩) (fun z => ⟨2, aq2, z, by decide⟩)
    obtain ⟨i, hi, hki, hi2⟩ := ha
    have hkD := g4 i k hi hki
    have hwi : wh k = i := ((g2.2 k hk).2 i hi).mpr hki
    refine J.aload0 X dX3_puts_8 ?_
    refine J.getf X dX3_puts_9 fl_X3_40_X3 (S.o) rfl ?_
    refine J.aload0 X dX3_puts_12 ?_
    refine J.getf X dX3_puts_13 fl_X3_11_X3 (S.o) rfl ?_
    refine J.iload1 X dX3_puts_16 ?_
    refine J.iald X dX3_puts_17 (S.r_wh) (rfl) (by omega) ?_
    refine J.topi (y := nI (i)) ((by rw [hwi])) ?_
    refine J.dup2 X dX3_puts_18 ?_
    refine J.iald X dX3_puts_19 (S.r_to) (rfl) (by omega) ?_
    refine J.iload2 X dX3_puts_20 ?_
    refine J.aload0 X dX3_puts_21 ?_
    refine J.getf X dX3_puts_22 fl_X3_21_X3 (S.o) rfl ?_
    refine J.iload1 X dX3_puts_25 ?_
    refine J.iald X dX3_puts_26 (S.r_wt) (rfl) (by omega) ?_
    refine J.topi (y := nI ((s.2.2 0 k))) ((g3 k hkD).1) ?_
    refine J.isub X dX3_puts_27 ?_
    refine J.iadd X dX3_puts_28 ?_
    refine J.sk_to X dX3_puts_29 S (rfl) (by omega) (fun h S => ?_)
    refine J.aload0 X dX3_puts_30 ?_
    refine J.getf X dX3_puts_31 fl_X3_21_X3 (S.o) rfl ?_
    refine J.iload1 X dX3_puts_34 ?_
    refine J.iload2 X dX3_puts_35 ?_
    refine J.sk_wt X dX3_puts_36 S (rfl) (by omega) (fun h S => ?_)
    have A1 : AW (achg s k v x co) := A.chg hx hco
    have S1 : SA K t h B (achg s k v x co) C e D := ⟨_, _, _, _, _, _, _, _, _, _, S.1, (S.2.SF g1).2, g2.chg A hi hki hco, g3.chg k x co v, g4, g5, A1⟩
    have f1 := (S.2.SF g1).1
    refine J.aload0 X dX3_puts_37 ?_
    refine J.iload1 X dX3_puts_38 ?_
    refine J.callVv X dX3_puts_39 lk_X3_190_X3 ce_X3_hits (sa_hits F S1 hC2 c1) (by decide) rfl (S.o) rfl (fun h2 e2 _ => ?_)
    refine J.goto (tgt := 119) X dX3_puts_42 (by decide) ?_
    refine fin _ e D _ ?_ (f1.tr e2.2)
    unfold aputS aputC
    rw [if_pos c1, if_pos c1]
    exact e2.1
