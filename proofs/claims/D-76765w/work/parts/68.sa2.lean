/-! Sketch: one goes, trims -/
theorem upV_ne {s : AS} {j k x i : Nat} (m : Nat) (h : i ≠ j) : (upV s j k x).2.2 i m = s.2.2 i m := by rw [upV_2, if_neg (fun z => h z.1)]
theorem upV_at (s : AS) (j k x m : Nat) : (upV s j k x).2.2 j m = if m = k then x else s.2.2 j m := by
  rw [upV_2]
  by_cases e : m = k
  · rw [if_pos e, if_pos ⟨rfl, e⟩]
  · rw [if_neg e, if_neg (fun z => e z.2)]
theorem SD.ht {D : Nat → Prop} {s : AS} {wt ht ch : Nat → Int32} {pn : Nat → Nat} (h : SD D s wt ht ch pn) (k x : Nat) : SD D (upV s 2 k x) wt (upd ht k (nI x)) ch pn := fun j hj => by
  obtain ⟨h1, h2, h3, h4⟩ := h j hj
  refine ⟨?_, ?_, ?_, ?_⟩
  all_goals first
    | (rw [upV_at, upd_at]; split <;> first | rfl | assumption)
    | (rw [upV_ne]; assumption; decide)
theorem SD.ch {D : Nat → Prop} {s : AS} {wt ht ch : Nat → Int32} {pn : Nat → Nat} (h : SD D s wt ht ch pn) (k x : Nat) : SD D (upV s 3 k x) wt ht (upd ch k (nI x)) pn := fun j hj => by
  obtain ⟨h1, h2, h3, h4⟩ := h j hj
  refine ⟨?_, ?_, ?_, ?_⟩
  all_goals first
    | (rw [upV_at, upd_at]; split <;> first | rfl | assumption)
    | (rw [upV_ne]; assumption; decide)
theorem SD.wt {D : Nat → Prop} {s : AS} {wt ht ch : Nat → Int32} {pn : Nat → Nat} (h : SD D s wt ht ch pn) (k x : Nat) : SD D (upV s 0 k x) (upd wt k (nI x)) ht ch pn := fun j hj => by
  obtain ⟨h1, h2, h3, h4⟩ := h j hj
  refine ⟨?_, ?_, ?_, ?_⟩
  all_goals first
    | (rw [upV_at, upd_at]; split <;> first | rfl | assumption)
    | (rw [upV_ne]; assumption; decide)
theorem SQ.V {s : AS} {wh : Nat → Nat} {nx ah fi la : Nat → Option Nat} {to : Nat → Int32} (S : SQ s wh nx ah fi la to) {j : Nat} (hj : j ≠ 0) (k x : Nat) : SQ (upV s j k x) wh nx ah fi la to := S.att rfl (fun i _ => wsum_V hj)
theorem AW.V1 {s : AS} (h : AW s) {k : Nat} (hk : ∀ j, aq j → k ∉ s.1 j) (j x : Nat) : AW (upV s j k x) := h.att (k := k) hk (fun i m hm => by rw [show va_up s.2.2 j (va_up (s.2.2 j) k x) i m = (upV s j k x).2.2 i m from rfl, upV_2, if_neg (fun z => hm z.2)])
theorem AW.aok {s : AS} (h : AW s) {i k : Nat} (hi : aq i) (hk : k ∈ s.1 i) : aok s i k := h.2.2 i k hi hk
theorem SA.dq {K : JK} {t : Nat} {h : JIH} {B : Nat} {s : AS} {C : Nat → Nat} {e : Nat} {D : Nat → Prop} (S : SA K t h B s C e D) {i k : Nat} (hi : aq i) (hk : k ∈ s.1 i) : D k := by
  obtain ⟨wh, nx, ah, wt, ht, ch, pn, fi, la, to, T, g1, g2, g3, g4, g5, A⟩ := S
  exact g4 i k hi hk
theorem sa_falls {K : JK} {l : Launch} {hE : JIH} {t B : Nat} {s : AS} {C : Nat → Nat} {e : Nat} {D : Nat → Prop}  (F : JF K) (S : SA K t hE B s C e D) :
    Ct K l yX3_falls wX3_falls 2 [.ref B] hE (jRi (fun r h' => (aold s 2 = none ∧ r = nI 0 ∧ hE = h') ∨ (∃ k, aold s 2 = some k ∧ r = nI 1 ∧ SA K t h' B (afall s k) C e D ∧ SF t hE h'))) jNo := by
  have S0 := S
  obtain ⟨wh, nx, ah, wt, ht, ch, pn, fi, la, to, T, g1, g2, g3, g4, g5, A⟩ := S
  refine st_X3_falls (ls := [some (.ref B), none]) F rfl (body := fun M X => ?_)
  have S := T.S
  refine J.aload0 X dX3_falls_0 ?_
  refine J.iconst (v := nI 2) X dX3_falls_1 (by decide) ?_
  refine J.callVi X dX3_falls_2 lk_X3_157_X3 ce_X3_oldest (sa_oldest F S0 aq2) (by decide) rfl (S.o) rfl (fun r h1 e1 _ => ?_)
  rcases e1 with ⟨e1, rfl, rfl⟩ | ⟨k, e1, rfl, S1, f1⟩
  · skip
    refine J.istore1 X dX3_falls_5 ?_
    refine J.iload1 X dX3_falls_6 ?_
    refine J.iconst (v := -1) X dX3_falls_7 (by decide) ?_
    refine J.icmp_ne (tgt := 13) X dX3_falls_8 (by decide) (fun q9 => absurd q9 (fun h => h rfl)) (fun _ => ?_)
    refine J.iconst (v := nI 0) X dX3_falls_11 (by decide) ?_
    refine J.zreturn X dX3_falls_12 (rfl) (jRi.of ?_)
    exact Or.inl ⟨e1, rfl, rfl⟩
  · have hk := (aold_some e1).1
    have ok := A.aok aq2 hk
    have hkq := fun j hj => out_not A aq2 hk (j := j) hj
    have hkD := g4 2 k aq2 hk
    clear S T S0 g1 g2 g3 g4 g5
    obtain ⟨wh, nx, ah, wt, ht, ch, pn, fi, la, to, T, g1, g2, g3, g4, g5, A1⟩ := S1
    have S := T.S
    have k4 := ok.1
    refine J.istore1 X dX3_falls_5 ?_
    refine J.iload1 X dX3_falls_6 ?_
    refine J.iconst (v := -1) X dX3_falls_7 (by decide) ?_
    refine J.icmp_ne (tgt := 13) X dX3_falls_8 (by decide) (fun _ => ?_) (fun q9 => absurd q9 (bI_m1 (by omega)))
    refine J.aload0 X dX3_falls_13 ?_
    refine J.getf X dX3_falls_14 fl_X3_24_X3 (S.o) rfl ?_
    refine J.iload1 X dX3_falls_17 ?_
    refine J.iconst (v := nI 0) X dX3_falls_18 (by decide) ?_
    refine J.sk_ht X dX3_falls_19 S (rfl) (by omega) (fun h S => ?_)
    have S2 : SA K t h B (upV (aout s 2 k) 2 k 0) C e D := ⟨_, _, _, _, _, _, _, _, _, _, S.1, (S.2.SF g1).2, g2.V (by decide) k 0, g3.ht k 0, g4, g5, A1.V1 hkq 2 0⟩
    replace f1 := f1.tr (S.2.SF g1).1
    refine J.aload0 X dX3_falls_20 ?_
    refine J.iload1 X dX3_falls_21 ?_
    refine J.iconst (v := nI 1) X dX3_falls_22 (by decide) ?_
    refine J.callVv X dX3_falls_23 lk_X3_146_X3 ce_X3_adds (sa_adds F S2 aq1 hkD hkq ⟨ok.1, by simp only [upV_2]; exact ok.2.1, by simp only [upV_2]; exact ok.2.2.1, by simp only [upV_2]; simp, by simp only [upV_2]; exact ok.2.2.2.2.1, by simp only [upV_2]; exact ok.2.2.2.2.2.1, fun z => absurd z (by decide)⟩) (by decide) rfl (S.o) rfl (fun h2 e2 _ => ?_)
    refine J.iconst (v := nI 1) X dX3_falls_26 (by decide) ?_
    refine J.zreturn X dX3_falls_27 (rfl) (jRi.of ?_)
    exact Or.inr ⟨k, e1, rfl, e2.1, f1.tr e2.2⟩
theorem sa_gfp {K : JK} {l : Launch} {hE : JIH} {t B : Nat} {s : AS} {C : Nat → Nat} {e : Nat} {D : Nat → Prop}  (F : JF K) (S : SA K t hE B s C e D) :
    Ct K l yX3_goesFromProbation wX3_goesFromProbation 3 [.ref B] hE (jRi (fun r h' => (aold s 1 = none ∧ r = nI 0 ∧ hE = h') ∨ (∃ k D', aold s 1 = some k ∧ r = nI 1 ∧ ((0 < s.2.2 3 k ∧ SA K t h' B (alife s k) C e D') ∨ (¬ 0 < s.2.2 3 k ∧ SA K t h' B (ago s 1 k 3) (va_up C 9 (C 9 + 1)) k D')) ∧ SF t hE h'))) jNo := by
  have S0 := S
  obtain ⟨wh, nx, ah, wt, ht, ch, pn, fi, la, to, T, g1, g2, g3, g4, g5, A⟩ := S
  refine st_X3_goesFromProbation (ls := [some (.ref B), none]) F rfl (body := fun M X => ?_)
  have S := T.S
  refine J.aload0 X dX3_goesFromProbation_0 ?_
  refine J.iconst (v := nI 1) X dX3_goesFromProbation_1 (by decide) ?_
  refine J.callVi X dX3_goesFromProbation_2 lk_X3_157_X3 ce_X3_oldest (sa_oldest F S0 aq1) (by decide) rfl (S.o) rfl (fun r h1 e1 _ => ?_)
  rcases e1 with ⟨e1, rfl, rfl⟩ | ⟨k, e1, rfl, S1, f1⟩
  · skip
    refine J.istore1 X dX3_goesFromProbation_5 ?_
    refine J.iload1 X dX3_goesFromProbation_6 ?_
    refine J.iconst (v := -1) X dX3_goesFromProbation_7 (by decide) ?_
    refine J.icmp_ne (tgt := 13) X dX3_goesFromProbation_8 (by decide) (fun q9 => absurd q9 (fun h => h rfl)) (fun _ => ?_)
    refine J.iconst (v := nI 0) X dX3_goesFromProbation_11 (by decide) ?_
    refine J.zreturn X dX3_goesFromProbation_12 (rfl) (jRi.of ?_)
    exact Or.inl ⟨e1, rfl, rfl⟩
  · have hk := (aold_some e1).1
    have ok := A.aok aq1 hk
    have hkq := fun j hj => out_not A aq1 hk (j := j) hj
    have hkD := g4 1 k aq1 hk
    clear S T S0 g1 g2 g3 g4 g5
    have S1' := S1
    obtain ⟨wh, nx, ah, wt, ht, ch, pn, fi, la, to, T, g1, g2, g3, g4, g5, A1⟩ := S1
    have S := T.S
    have k4 := ok.1
    have hch : ch k = nI (s.2.2 3 k) := (g3 k hkD).2.2.1
    have hc9 : s.2.2 3 k ≤ 9 := ok.2.2.2.2.1
    refine J.istore1 X dX3_goesFromProbation_5 ?_
    refine J.iload1 X dX3_goesFromProbation_6 ?_
    refine J.iconst (v := -1) X dX3_goesFromProbation_7 (by decide) ?_
    refine J.icmp_ne (tgt := 13) X dX3_goesFromProbation_8 (by decide) (fun _ => ?_) (fun q9 => absurd q9 (bI_m1 (by omega)))
    refine J.aload0 X dX3_goesFromProbation_13 ?_
    refine J.getf X dX3_goesFromProbation_14 fl_X3_27_X3 (S.o) rfl ?_
    refine J.iload1 X dX3_goesFromProbation_17 ?_
    refine J.iald X dX3_goesFromProbation_18 (S.r_ch) (rfl) (by omega) ?_
    refine J.topi (y := nI ((s.2.2 3 k))) (hch) ?_
    refine J.if_neN (tgt := 29) X dX3_goesFromProbation_19 (by decide) (by omega) (fun cn => ?_) (fun cn => ?_)
    · skip
      refine J.aload0 X dX3_goesFromProbation_29 ?_
      refine J.getf X dX3_goesFromProbation_30 fl_X3_27_X3 (S.o) rfl ?_
      refine J.iload1 X dX3_goesFromProbation_33 ?_
      refine J.dup2 X dX3_goesFromProbation_34 ?_
      refine J.iald X dX3_goesFromProbation_35 (S.r_ch) (rfl) (by omega) ?_
      refine J.topi (y := nI ((s.2.2 3 k))) (hch) ?_
      refine J.iconst (v := nI 1) X dX3_goesFromProbation_36 (by decide) ?_
      refine J.isubN X dX3_goesFromProbation_37 (by omega) ?_
      refine J.sk_ch X dX3_goesFromProbation_38 S (rfl) (by omega) (fun h S => ?_)
      have S2 : SA K t h B (upV (aout s 1 k) 3 k (s.2.2 3 k - 1)) C e D := ⟨_, _, _, _, _, _, _, _, _, _, S.1, (S.2.SF g1).2, g2.V (by decide) k _, g3.ch k _, g4, g5, A1.V1 hkq 3 _⟩
      replace f1 := f1.tr (S.2.SF g1).1
      refine J.aload0 X dX3_goesFromProbation_39 ?_
      refine J.iload1 X dX3_goesFromProbation_40 ?_
      refine J.iconst (v := nI 1) X dX3_goesFromProbation_41 (by decide) ?_
      refine J.callVv X dX3_goesFromProbation_42 lk_X3_146_X3 ce_X3_adds (sa_adds F S2 aq1 hkD hkq ⟨ok.1, by simp only [upV_2]; exact ok.2.1, by simp only [upV_2]; exact ok.2.2.1, by simp only [upV_2]; exact ok.2.2.2.1, by simp only [upV_2]; simp; omega, by simp only [upV_2]; exact ok.2.2.2.2.2.1, fun z => absurd z (by decide)⟩) (by decide) rfl (S.o) rfl (fun h2 e2 _ => ?_)
      refine J.iconst (v := nI 1) X dX3_goesFromProbation_45 (by decide) ?_
      refine J.zreturn X dX3_goesFromProbation_46 (rfl) (jRi.of ?_)
      exact Or.inr ⟨k, D, e1, rfl, Or.inl ⟨by omega, e2.1⟩, f1.tr e2.2⟩
    · skip
      refine J.aload0 X dX3_goesFromProbation_22 ?_
      refine J.iload1 X dX3_goesFromProbation_23 ?_
      refine J.iconst (v := nI 3) X dX3_goesFromProbation_24 (by decide) ?_
      refine J.callVi X dX3_goesFromProbation_25 lk_X3_160_X3 ce_X3_goes (sa_goes F S1' aq3 k4 hkD hkq ok.2.1) (by decide) rfl (S.o) rfl (fun r h2 e2 _ => ?_)
      obtain ⟨rfl, e2, f2⟩ := e2
      refine J.zreturn X dX3_goesFromProbation_28 (rfl) (jRi.of ?_)
      exact Or.inr ⟨k, _, e1, rfl, Or.inr ⟨by omega, e2⟩, f1.tr f2⟩
theorem sa_gfg {K : JK} {l : Launch} {hE : JIH} {t B : Nat} {s : AS} {C : Nat → Nat} {e : Nat} {D : Nat → Prop}  (F : JF K) (S : SA K t hE B s C e D) :
    Ct K l yX3_goesFromProtected wX3_goesFromProtected 3 [.ref B] hE (jRi (fun r h' => (aold s 2 = none ∧ r = nI 0 ∧ hE = h') ∨ (∃ k D', aold s 2 = some k ∧ r = nI 1 ∧ SA K t h' B (ago s 2 k 4) (va_up C 9 (C 9 + 1)) k D' ∧ SF t hE h'))) jNo := by
  have S0 := S
  obtain ⟨wh, nx, ah, wt, ht, ch, pn, fi, la, to, T, g1, g2, g3, g4, g5, A⟩ := S
  refine st_X3_goesFromProtected (ls := [some (.ref B), none]) F rfl (body := fun M X => ?_)
  have S := T.S
  refine J.aload0 X dX3_goesFromProtected_0 ?_
  refine J.iconst (v := nI 2) X dX3_goesFromProtected_1 (by decide) ?_
  refine J.callVi X dX3_goesFromProtected_2 lk_X3_157_X3 ce_X3_oldest (sa_oldest F S0 aq2) (by decide) rfl (S.o) rfl (fun r h1 e1 _ => ?_)
  rcases e1 with ⟨e1, rfl, rfl⟩ | ⟨k, e1, rfl, S1, f1⟩
  · skip
    refine J.istore1 X dX3_goesFromProtected_5 ?_
    refine J.iload1 X dX3_goesFromProtected_6 ?_
    refine J.iconst (v := -1) X dX3_goesFromProtected_7 (by decide) ?_
    refine J.icmp_eq (tgt := 24) X dX3_goesFromProtected_8 (by decide) (fun _ => ?_) (fun q9 => absurd q9 (fun h => h rfl))
    refine J.iconst (v := nI 0) X dX3_goesFromProtected_24 (by decide) ?_
    refine J.zreturn X dX3_goesFromProtected_25 (rfl) (jRi.of ?_)
    exact Or.inl ⟨e1, rfl, rfl⟩
  · have hk := (aold_some e1).1
    have ok := A.aok aq2 hk
    have hkq := fun j hj => out_not A aq2 hk (j := j) hj
    have hkD := g4 2 k aq2 hk
    have k4 := ok.1
    clear S T S0 g1 g2 g3 g4 g5
    have S1' := S1
    obtain ⟨wh, nx, ah, wt, ht, ch, pn, fi, la, to, T, -⟩ := S1
    have S := T.S
    refine J.istore1 X dX3_goesFromProtected_5 ?_
    refine J.iload1 X dX3_goesFromProtected_6 ?_
    refine J.iconst (v := -1) X dX3_goesFromProtected_7 (by decide) ?_
    refine J.icmp_eq (tgt := 24) X dX3_goesFromProtected_8 (by decide) (fun q9 => absurd q9 (bI_m1 (by omega))) (fun _ => ?_)
    refine J.aload0 X dX3_goesFromProtected_11 ?_
    refine J.iload1 X dX3_goesFromProtected_12 ?_
    refine J.iconst (v := nI 4) X dX3_goesFromProtected_13 (by decide) ?_
    refine J.callVi X dX3_goesFromProtected_14 lk_X3_160_X3 ce_X3_goes (sa_goes F S1' aq4 k4 hkD hkq ok.2.1) (by decide) rfl (S.o) rfl (fun r h2 e2 _ => ?_)
    obtain ⟨rfl, e2, f2⟩ := e2
    refine J.if_eqN (tgt := 24) X dX3_goesFromProtected_17 (by decide) (by omega) (fun q9 => absurd q9 (by omega)) (fun _ => ?_)
    refine J.iconst (v := nI 1) X dX3_goesFromProtected_20 (by decide) ?_
    refine J.goto (tgt := 25) X dX3_goesFromProtected_21 (by decide) ?_
    refine J.zreturn X dX3_goesFromProtected_25 (rfl) (jRi.of ?_)
    exact Or.inr ⟨k, _, e1, rfl, e2, f1.tr f2⟩
