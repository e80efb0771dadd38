/-! Sketch: trims -/
theorem SA.ex {K : JK} {t : Nat} {h : JIH} {B : Nat} {s : AS} {C : Nat → Nat} {e : Nat} {D : Nat → Prop} (S : SA K t h B s C e D) : ∃ (wh : Nat → Nat) (nx ah : Nat → Option Nat) (wt ht ch : Nat → Int32) (pn : Nat → Nat) (fi la : Nat → Option Nat) (to : Nat → Int32), SkS K h h B wh nx ah wt ht ch pn fi la to (nI (C 0)) (nI (C 1)) (nI (C 2)) (nI (C 3)) (nI (C 4)) (nI (C 5)) (nI (C 6)) (nI (C 9)) (nI e) ∧ ∀ i, aq i → to i = nI (wsum s i) := by
  obtain ⟨wh, nx, ah, wt, ht, ch, pn, fi, la, to, T, g1, g2, g3, g4, g5, A⟩ := S
  exact ⟨wh, nx, ah, wt, ht, ch, pn, fi, la, to, T.S, fun i hi => (g2.1 i hi).2.2.2⟩
theorem sa_both {K : JK} {l : Launch} {hE : JIH} {t B : Nat} {s : AS} {C : Nat → Nat} {e : Nat} {D : Nat → Prop}  (F : JF K) (S : SA K t hE B s C e D) :
    Ct K l yX3_both wX3_both 0 [.ref B] hE (jRi (fun r h' => r = nI (wsum s 1 + wsum s 2) ∧ hE = h')) jNo := by
  obtain ⟨wh, nx, ah, wt, ht, ch, pn, fi, la, to, T, w⟩ := S.ex
  refine (sk_both F T.1).weaken (fun r h' z => ?_) (fun _ _ _ z => z)
  obtain ⟨r, rfl, e1, rfl⟩ := z
  exact ⟨r, rfl, by rw [e1, w 1 aq1, w 2 aq2, nI_add], rfl⟩
theorem sa_fades {K : JK} {l : Launch} {hE : JIH} {t B : Nat} {s : AS} {C : Nat → Nat} {e : Nat} {D : Nat → Prop}  (F : JF K) (hC : C 0 < 1000) {i : Nat} (hi : aq i) {fu : Nat} : ∀ {s' : AS}, SA K t hE B s C e D → afade (C 0) i fu s = some s' →
    Ct K l yX3_fades wX3_fades 2 [.ref B, .int (nI i)] hE (jRv (fun h' => SA K t h' B s' C e D ∧ SF t hE h')) jNo := by
  intro s' S hT
  have hi4 := hi.2
  refine st_X3_fades (ls := [some (.ref B), some (.int (nI i))]) F rfl (body := fun M X => ?_)
  suffices loop : ∀ (f : Nat) (s : AS) (h : JIH), SA K t h B s C e D → afade (C 0) i f s = some s' → SF t hE h → J M h 0 [some (.ref B), some (.int (nI i))] [] from loop fu s hE S hT (SF.rf _ _)
  intro f
  induction f with
  | zero => intro s h S hT; cases hT
  | succ f ih =>
    intro s h S0 hT ff
    have A := S0.aw
    have hw := wsum_le A hi
    obtain ⟨wh, nx, ah, wt, ht, ch, pn, fi, la, to, S, w⟩ := S0.ex
    refine J.aload0 X dX3_fades_0 ?_
    refine J.getf X dX3_fades_1 fl_X3_40_X3 (S.o) rfl ?_
    refine J.iload1 X dX3_fades_4 ?_
    refine J.iald X dX3_fades_5 (S.r_to) (rfl) (by omega) ?_
    refine J.topi (y := nI ((wsum s i))) ((w i hi)) ?_
    refine J.aload0 X dX3_fades_6 ?_
    refine J.getf X dX3_fades_7 fl_X3_115_X3 (S.o) rfl ?_
    refine J.topi (y := nI ((C 0))) (rfl) ?_
    unfold afade at hT
    refine J.icmp_leN (tgt := 22) X dX3_fades_10 (by decide) (by omega) (by omega) (fun cn => ?_) (fun cn => ?_)
    · skip
      rw [if_neg (by omega)] at hT
      cases hT
      refine J.vreturn X dX3_fades_22 (jRv.of ?_)
      exact ⟨S0, ff⟩
    · skip
      rw [if_pos (by omega)] at hT
      refine J.aload0 X dX3_fades_13 ?_
      refine J.iload1 X dX3_fades_14 ?_
      refine J.callVi X dX3_fades_15 lk_X3_157_X3 ce_X3_oldest (sa_oldest F S0 hi) (by decide) rfl (S.o) rfl (fun r h1 e1 _ => ?_)
      rcases e1 with ⟨e1, rfl, rfl⟩ | ⟨k, e1, rfl, S1, f1⟩
      · rw [e1] at hT; cases hT
      · rw [e1] at hT
        refine J.pop X dX3_fades_18 ?_
        refine J.goto (tgt := 0) X dX3_fades_19 (by decide) ?_
        exact ih _ _ S1 hT (ff.tr f1)
theorem sa_trims {K : JK} {l : Launch} {hE : JIH} {t B : Nat} {s : AS} {C : Nat → Nat} {e : Nat} {D : Nat → Prop}  (F : JF K) (S : SA K t hE B s C e D) (hC : C 0 < 1000) (hC1 : C 1 < 1000) {fu : Nat} {s' : AS} {gs : List Nat} (hT : atrim (C 0) (C 1) fu s s' gs) :
    Ct K l yX3_trims wX3_trims 4 [.ref B] hE (jRv (fun h' => ∃ e' D', SA K t h' B s' (va_up C 9 (C 9 + gs.length)) e' D' ∧ SF t hE h')) jNo := by
  obtain ⟨s1, s2, s3, hT1, hT2, hT3, hT4⟩ := hT
  refine st_X3_trims (ls := [some (.ref B), none]) F rfl (body := fun M X => ?_)
  refine J.iconst (v := nI 1) X dX3_trims_0 (by decide) ?_
  refine J.istore1 X dX3_trims_1 ?_
  suffices l1 : ∀ (f : Nat) (s : AS) (h : JIH), SA K t h B s C e D → asinks (C 1) f s = some s1 → SF t hE h → J M h 2 [some (.ref B), some (.int (nI 1))] [] from l1 fu s hE S hT1 (SF.rf _ _)
  suffices l2 : ∀ (f : Nat) (s : AS) (h : JIH) (gs0 : List Nat) (e' : Nat) (D' : Nat → Prop), SA K t h B s (va_up C 9 (C 9 + gs0.length)) e' D' → alets (C 0) f s gs0 = some (s2, gs) → SF t hE h → J M h 29 [some (.ref B), some (.int (nI 1))] [] by
    have l1e : ∀ (h : JIH), SA K t h B s1 C e D → SF t hE h → ∀ x : Int32, J M h 27 [some (.ref B), some (.int x)] [] := fun h S0 ff x => by
      refine J.iconst (v := nI 1) X dX3_trims_27 (by decide) ?_
      refine J.istore1 X dX3_trims_28 ?_
      refine l2 fu s1 h [] e D ?_ hT2 ff
      have : va_up C 9 (C 9 + ([] : List Nat).length) = C := va_upid C 9
      rw [this]
      exact S0
    intro f
    induction f with
    | zero => intro s h S hT; cases hT
    | succ f ih =>
      intro s h S0 hT ff
      have A := S0.aw
      have hw := wsum_le A aq2
      obtain ⟨wh, nx, ah, wt, ht, ch, pn, fi, la, to, S, w⟩ := S0.ex
      refine J.iload1 X dX3_trims_2 ?_
      refine J.if_eqN (tgt := 27) X dX3_trims_3 (by decide) (by omega) (fun q9 => absurd q9 (by omega)) (fun _ => ?_)
      refine J.aload0 X dX3_trims_6 ?_
      refine J.getf X dX3_trims_7 fl_X3_40_X3 (S.o) rfl ?_
      refine J.iconst (v := nI 2) X dX3_trims_10 (by decide) ?_
      refine J.iald X dX3_trims_11 (S.r_to) (rfl) (by omega) ?_
      refine J.topi (y := nI ((wsum s 2))) ((w 2 aq2)) ?_
      refine J.aload0 X dX3_trims_12 ?_
      refine J.getf X dX3_trims_13 fl_X3_119_X3 (S.o) rfl ?_
      refine J.topi (y := nI ((C 1))) (rfl) ?_
      unfold asinks at hT
      refine J.icmp_leN (tgt := 27) X dX3_trims_16 (by decide) (by omega) (by omega) (fun cn => ?_) (fun cn => ?_)
      · skip
        rw [if_neg (by omega)] at hT
        cases hT
        exact l1e h S0 ff _
      · skip
        rw [if_pos (by omega)] at hT
        refine J.aload0 X dX3_trims_19 ?_
        refine J.callVi X dX3_trims_20 lk_X3_164_X3 ce_X3_falls (sa_falls F S0) (by decide) rfl (S.o) rfl (fun r h1 e1 _ => ?_)
        rcases e1 with ⟨e1, rfl, rfl⟩ | ⟨k, e1, rfl, S1, f1⟩
        · rw [e1] at hT
          cases hT
          refine J.istore1 X dX3_trims_23 ?_
          refine J.goto (tgt := 2) X dX3_trims_24 (by decide) ?_
          refine J.iload1 X dX3_trims_2 ?_
          refine J.if_eqN (tgt := 27) X dX3_trims_3 (by decide) (by omega) (fun _ => ?_) (fun q9 => absurd q9 (by omega))
          exact l1e h S0 ff _
        · rw [e1] at hT
          refine J.istore1 X dX3_trims_23 ?_
          refine J.goto (tgt := 2) X dX3_trims_24 (by decide) ?_
          exact ih _ _ S1 hT (ff.tr f1)
  have l2e : ∀ (h : JIH) (e' : Nat) (D' : Nat → Prop), SA K t h B s2 (va_up C 9 (C 9 + gs.length)) e' D' → SF t hE h → ∀ x : Int32, J M h 67 [some (.ref B), some (.int x)] [] := fun h e' D' S0 ff x => by
    obtain ⟨wh, nx, ah, wt, ht, ch, pn, fi, la, to, S, w⟩ := S0.ex
    refine J.aload0 X dX3_trims_67 ?_
    refine J.iconst (v := nI 3) X dX3_trims_68 (by decide) ?_
    refine J.callVv X dX3_trims_69 lk_X3_176_X3 ce_X3_fades (sa_fades F (C := va_up C 9 (C 9 + gs.length)) hC aq3 S0 hT3) (by decide) rfl (S.o) rfl (fun h1 e1 _ => ?_)
    obtain ⟨S1, f1⟩ := e1
    clear w S
    obtain ⟨wh, nx, ah, wt, ht, ch, pn, fi, la, to, S, w⟩ := S1.ex
    refine J.aload0 X dX3_trims_72 ?_
    refine J.iconst (v := nI 4) X dX3_trims_73 (by decide) ?_
    refine J.callVv X dX3_trims_74 lk_X3_176_X3 ce_X3_fades (sa_fades F (C := va_up C 9 (C 9 + gs.length)) hC aq4 S1 hT4) (by decide) rfl (S.o) rfl (fun h2 e2 _ => ?_)
    obtain ⟨S2, f2⟩ := e2
    refine J.vreturn X dX3_trims_77 (jRv.of ?_)
    exact ⟨e', D', S2, (ff.tr f1).tr f2⟩
  intro f
  induction f with
  | zero => intro s h gs0 e' D' S hT; cases hT
  | succ f ih =>
    intro s h gs0 e' D' S0 hT ff
    have A := S0.aw
    have hw := wsum_le A aq1
    have hw2 := wsum_le A aq2
    obtain ⟨wh, nx, ah, wt, ht, ch, pn, fi, la, to, S, w⟩ := S0.ex
    refine J.iload1 X dX3_trims_29 ?_
    refine J.if_eqN (tgt := 67) X dX3_trims_30 (by decide) (by omega) (fun q9 => absurd q9 (by omega)) (fun _ => ?_)
    refine J.aload0 X dX3_trims_33 ?_
    refine J.callVi X dX3_trims_34 lk_X3_167_X3 ce_X3_both (sa_both F S0) (by decide) rfl (S.o) rfl (fun r h1 e1 _ => ?_)
    obtain ⟨rfl, rfl⟩ := e1
    refine J.aload0 X dX3_trims_37 ?_
    refine J.getf X dX3_trims_38 fl_X3_115_X3 (S.o) rfl ?_
    refine J.topi (y := nI ((C 0))) (rfl) ?_
    unfold alets at hT
    refine J.icmp_leN (tgt := 67) X dX3_trims_41 (by decide) (by omega) (by omega) (fun cn => ?_) (fun cn => ?_)
    · skip
      rw [if_neg (by omega)] at hT
      cases hT
      exact l2e h e' D' S0 ff _
    · skip
      rw [if_pos (by omega)] at hT
      refine J.aload0 X dX3_trims_44 ?_
      refine J.callVi X dX3_trims_45 lk_X3_170_X3 ce_X3_goesFromProbation (sa_gfp F S0) (by decide) rfl (S.o) rfl (fun r h1 e1 _ => ?_)
      rcases e1 with ⟨e1, rfl, rfl⟩ | ⟨k, D1, e1, rfl, S1, f1⟩
      · rw [e1] at hT
        refine J.if_neN (tgt := 58) X dX3_trims_48 (by decide) (by omega) (fun q9 => absurd q9 (by omega)) (fun _ => ?_)
        refine J.aload0 X dX3_trims_51 ?_
        refine J.callVi X dX3_trims_52 lk_X3_173_X3 ce_X3_goesFromProtected (sa_gfg F S0) (by decide) rfl (S.o) rfl (fun r h1 e2 _ => ?_)
        rcases e2 with ⟨e2, rfl, rfl⟩ | ⟨k, D1, e2, rfl, S1, f1⟩
        · rw [e2] at hT
          cases hT
          refine J.if_eqN (tgt := 62) X dX3_trims_55 (by decide) (by omega) (fun _ => ?_) (fun q9 => absurd q9 (by omega))
          refine J.iconst (v := nI 0) X dX3_trims_62 (by decide) ?_
          refine J.istore1 X dX3_trims_63 ?_
          refine J.goto (tgt := 29) X dX3_trims_64 (by decide) ?_
          refine J.iload1 X dX3_trims_29 ?_
          refine J.if_eqN (tgt := 67) X dX3_trims_30 (by decide) (by omega) (fun _ => ?_) (fun q9 => absurd q9 (by omega))
          exact l2e h e' D' S0 ff _
        · rw [e2] at hT
          replace S1 : SA K t h1 B (ago s 2 k 4) (va_up C 9 (C 9 + (k :: gs0).length)) k D1 := by rw [va_up_self, va_up_up] at S1; exact S1
          refine J.if_eqN (tgt := 62) X dX3_trims_55 (by decide) (by omega) (fun q9 => absurd q9 (by omega)) (fun _ => ?_)
          refine J.iconst (v := nI 1) X dX3_trims_58 (by decide) ?_
          refine J.goto (tgt := 63) X dX3_trims_59 (by decide) ?_
          refine J.istore1 X dX3_trims_63 ?_
          refine J.goto (tgt := 29) X dX3_trims_64 (by decide) ?_
          exact ih _ _ _ _ _ S1 hT (ff.tr f1)
      · rw [e1] at hT
        refine J.if_neN (tgt := 58) X dX3_trims_48 (by decide) (by omega) (fun _ => ?_) (fun q9 => absurd q9 (by omega))
        refine J.iconst (v := nI 1) X dX3_trims_58 (by decide) ?_
        refine J.goto (tgt := 63) X dX3_trims_59 (by decide) ?_
        refine J.istore1 X dX3_trims_63 ?_
        refine J.goto (tgt := 29) X dX3_trims_64 (by decide) ?_
        rcases S1 with ⟨c3, S1⟩ | ⟨c3, S1⟩
        · replace hT : (if 0 < s.2.2 3 k then alets (C 0) f (alife s k) gs0 else alets (C 0) f (ago s 1 k 3) (k :: gs0)) = some (s2, gs) := hT
          rw [if_pos c3] at hT
          exact ih _ _ _ _ _ S1 hT (ff.tr f1)
        · replace hT : (if 0 < s.2.2 3 k then alets (C 0) f (alife s k) gs0 else alets (C 0) f (ago s 1 k 3) (k :: gs0)) = some (s2, gs) := hT
          rw [if_neg c3] at hT
          replace S1 : SA K t h1 B (ago s 1 k 3) (va_up C 9 (C 9 + (k :: gs0).length)) k D1 := by rw [va_up_self, va_up_up] at S1; exact S1
          exact ih _ _ _ _ _ S1 hT (ff.tr f1)
