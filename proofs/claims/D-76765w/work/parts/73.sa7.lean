/-! Sketch: victim -/
theorem alets_suf {cap : Nat} {s2 : AS} {gs : List Nat} : ∀ (f : Nat) (s : AS) (gs0 : List Nat), alets cap f s gs0 = some (s2, gs) → ∃ l, gs = l ++ gs0
  | 0, _, _, h => by cases h
  | f + 1, s, gs0, h => by
    unfold alets at h
    split at h
    · split at h
      · split at h
        · exact alets_suf f _ _ h
        · obtain ⟨l, e⟩ := alets_suf f _ _ h
          exact ⟨l ++ [_], by rw [e, List.append_assoc]; rfl⟩
      · split at h
        · obtain ⟨l, e⟩ := alets_suf f _ _ h
          exact ⟨l ++ [_], by rw [e, List.append_assoc]; rfl⟩
        · cases h; exact ⟨[], rfl⟩
    · cases h; exact ⟨[], rfl⟩
theorem nI_inj32 {a b : Nat} (ha : a < 4294967296) (hb : b < 4294967296) (h : nI a = nI b) : a = b := by
  have h2 : (Int32.ofNat a).toBitVec = (Int32.ofNat b).toBitVec := congrArg Int32.toBitVec h
  have h3 := congrArg BitVec.toNat h2
  rw [show (Int32.ofNat a).toBitVec = BitVec.ofNat 32 a from rfl, show (Int32.ofNat b).toBitVec = BitVec.ofNat 32 b from rfl, BitVec.toNat_ofNat, BitVec.toNat_ofNat] at h3
  omega
theorem sa_victim {K : JK} {l : Launch} {hE : JIH} {t B : Nat} {s : AS} {C : Nat → Nat} {e : Nat} {D : Nat → Prop}  (F : JF K) (S : SA K t hE B s C e D) (h9 : C 9 = 0) {kn fu : Nat} (hk : kn < 2147483648) {s1 s2 : AS} {gs : List Nat} (hT1 : asinks 0 fu s = some s1) (hT2 : alets 0 fu s1 [] = some (s2, gs)) :
    Ct K l yX3_victim wX3_victim 4 [.ref B, .int (nI kn)] hE (jRi (fun r h' => r = oel (gs.reverse[kn]?) (-5) (fun x => nI x) ∧ (∃ s' C' e' D', SA K t h' B s' C' e' D') ∧ SF t hE h')) jNo := by
  obtain ⟨wh, nx, ah, wt, ht, ch, pn, fi, la, to, T, g1, g2, g3, g4, g5, A⟩ := S
  refine st_X3_victim (ls := [some (.ref B), some (.int (nI kn)), none]) F rfl (body := fun M X => ?_)
  have S := T.S
  refine J.aload0 X dX3_victim_0 ?_
  refine J.iconst (v := nI 0) X dX3_victim_1 (by decide) ?_
  refine J.sk_s0 X dX3_victim_2 (pl_X3_115_X3 _) S (rfl) (rfl) (fun h S => ?_)
  refine J.aload0 X dX3_victim_5 ?_
  refine J.iconst (v := nI 0) X dX3_victim_6 (by decide) ?_
  refine J.sk_s1 X dX3_victim_7 (pl_X3_119_X3 _) S (rfl) (rfl) (fun h S => ?_)
  have S1 : SA K t h B s (va_up (va_up C 0 0) 1 0) e D := ⟨_, _, _, _, _, _, _, _, _, _, S.1, (S.2.SF g1).2, g2, g3, g4, g5, A⟩
  have f1 := (S.2.SF g1).1
  have c9 : va_up (va_up C 0 0) 1 0 9 = 0 := h9
  clear S T g1 g2 g3 g4 g5
  generalize va_up (va_up C 0 0) 1 0 = C1 at S1 c9
  refine J.iconst (v := nI 1) X dX3_victim_10 (by decide) ?_
  refine J.istore2 X dX3_victim_11 ?_
  suffices l1 : ∀ (f : Nat) (s : AS) (h : JIH), SA K t h B s C1 e D → asinks 0 f s = some s1 → SF t hE h → J M h 12 [some (.ref B), some (.int (nI kn)), some (.int (nI 1))] [] from l1 fu s h S1 hT1 f1
  suffices l2 : ∀ (f : Nat) (s : AS) (h : JIH) (gs0 : List Nat) (e' : Nat) (D' : Nat → Prop), gs0.length ≤ kn → SA K t h B s (va_up C1 9 gs0.length) e' D' → alets 0 f s gs0 = some (s2, gs) → SF t hE h → J M h 35 [some (.ref B), some (.int (nI kn)), some (.int (nI 1))] [] by
    have l1e : ∀ (h : JIH), SA K t h B s1 C1 e D → SF t hE h → ∀ x : Int32, J M h 33 [some (.ref B), some (.int (nI kn)), some (.int x)] [] := fun h S0 ff x => by
      refine J.iconst (v := nI 1) X dX3_victim_33 (by decide) ?_
      refine J.istore2 X dX3_victim_34 ?_
      refine l2 fu s1 h [] e D (Nat.zero_le _) ?_ hT2 ff
      have : va_up C1 9 ([] : List Nat).length = C1 := by rw [show ([] : List Nat).length = C1 9 from c9.symm, va_upid]
      rw [this]
      exact S0
    intro f
    induction f with
    | zero => intro s h S hT; cases hT
    | succ f ih =>
      intro s h S0 hT ff
      have A := S0.aw
      have hw := wsum_le A aq2
      obtain ⟨wh, nx, ah, wt, ht, ch, pn, fi, la, to, S, w⟩ := S0.ex
      refine J.iload2 X dX3_victim_12 ?_
      refine J.if_eqN (tgt := 33) X dX3_victim_13 (by decide) (by omega) (fun q9 => absurd q9 (by omega)) (fun _ => ?_)
      refine J.aload0 X dX3_victim_16 ?_
      refine J.getf X dX3_victim_17 fl_X3_40_X3 (S.o) rfl ?_
      refine J.iconst (v := nI 2) X dX3_victim_20 (by decide) ?_
      refine J.iald X dX3_victim_21 (S.r_to) (rfl) (by omega) ?_
      refine J.topi (y := nI ((wsum s 2))) ((w 2 aq2)) ?_
      unfold asinks at hT
      refine J.if_leN (tgt := 33) X dX3_victim_22 (by decide) (by omega) (fun cn => ?_) (fun cn => ?_)
      · skip
        rw [if_neg (by omega)] at hT
        cases hT
        exact l1e h S0 ff _
      · skip
        rw [if_pos (by omega)] at hT
        refine J.aload0 X dX3_victim_25 ?_
        refine J.callVi X dX3_victim_26 lk_X3_164_X3 ce_X3_falls (sa_falls F S0) (by decide) rfl (S.o) rfl (fun r h1 e1 _ => ?_)
        rcases e1 with ⟨e1, rfl, rfl⟩ | ⟨k, e1, rfl, S1, f1⟩
        · rw [e1] at hT
          cases hT
          refine J.istore2 X dX3_victim_29 ?_
          refine J.goto (tgt := 12) X dX3_victim_30 (by decide) ?_
          refine J.iload2 X dX3_victim_12 ?_
          refine J.if_eqN (tgt := 33) X dX3_victim_13 (by decide) (by omega) (fun _ => ?_) (fun q9 => absurd q9 (by omega))
          exact l1e h S0 ff _
        · rw [e1] at hT
          refine J.istore2 X dX3_victim_29 ?_
          refine J.goto (tgt := 12) X dX3_victim_30 (by decide) ?_
          exact ih _ _ S1 hT (ff.tr f1)
  clear S1 f1
  have l2e : ∀ (h : JIH) (s : AS) (C' : Nat → Nat) (e' : Nat) (D' : Nat → Prop), gs.length ≤ kn → SA K t h B s C' e' D' → SF t hE h → ∀ x : Int32, J M h 81 [some (.ref B), some (.int (nI kn)), some (.int x)] [] := fun h s C' e' D' hl S0 ff x => by
    obtain ⟨wh, nx, ah, wt, ht, ch, pn, fi, la, to, S, w⟩ := S0.ex
    refine J.bipush (v := -5) X dX3_victim_81 (by decide) ?_
    refine J.zreturn X dX3_victim_83 (rfl) (jRi.of ?_)
    refine ⟨?_, ⟨s, C', e', D', S0⟩, ff⟩
    rw [List.getElem?_eq_none (by rw [List.length_reverse]; exact hl)]
    rfl
  -- after a step: one more went, or none
  have chk : ∀ (h : JIH) (s : AS) (gs0 : List Nat) (e' : Nat) (D' : Nat → Prop), gs0.length ≤ kn + 1 → (gs0.length = kn + 1 → gs.reverse[kn]? = some e') → SA K t h B s (va_up C1 9 gs0.length) e' D' → SF t hE h → ∀ x : Int32, (gs0.length ≤ kn → J M h 35 [some (.ref B), some (.int (nI kn)), some (.int x)] []) → J M h 66 [some (.ref B), some (.int (nI kn)), some (.int x)] [] := fun h s gs0 e' D' hl he S0 ff x kk => by
    obtain ⟨wh, nx, ah, wt, ht, ch, pn, fi, la, to, S, w⟩ := S0.ex
    refine J.aload0 X dX3_victim_66 ?_
    refine J.getf X dX3_victim_67 fl_X3_137_X3 (S.o) rfl ?_
    refine J.iload1 X dX3_victim_70 ?_
    refine J.iconst (v := nI 1) X dX3_victim_71 (by decide) ?_
    refine J.iadd X dX3_victim_72 ?_
    refine J.icmp_ne (tgt := 35) X dX3_victim_73 (by decide) (fun c1 => ?_) (fun c1 => ?_)
    · skip
      refine kk ?_
      have : gs0.length ≠ kn + 1 := fun z => c1 (by rw [nI_add, va_up_self, z])
      omega
    · skip
      have hz : gs0.length = kn + 1 := by
        rw [nI_add, va_up_self] at c1
        exact nI_inj32 (by omega) (by omega) c1
      refine J.aload0 X dX3_victim_76 ?_
      refine J.getf X dX3_victim_77 fl_X3_154_X3 (S.o) rfl ?_
      refine J.zreturn X dX3_victim_80 (rfl) (jRi.of ?_)
      refine ⟨?_, ⟨s, _, e', D', S0⟩, ff⟩
      rw [he hz]
      rfl
  intro f
  induction f with
  | zero => intro s h gs0 e' D' hl S hT; cases hT
  | succ f ih =>
    intro s h gs0 e' D' hl S0 hT ff
    have A := S0.aw
    have hw := wsum_le A aq1
    have hw2 := wsum_le A aq2
    obtain ⟨wh, nx, ah, wt, ht, ch, pn, fi, la, to, S, w⟩ := S0.ex
    have rev : ∀ (k : Nat) (s : AS), alets 0 f s (k :: gs0) = some (s2, gs) → (k :: gs0).length = kn + 1 → gs.reverse[kn]? = some k := fun k s hT hl => by
      obtain ⟨l, el⟩ := alets_suf f _ _ hT
      have hl' : gs0.length = kn := by rw [List.length_cons] at hl; omega
      rw [el, List.reverse_append, List.reverse_cons, List.append_assoc, List.getElem?_append_right (by rw [List.length_reverse]; omega), List.length_reverse, hl', Nat.sub_self]
      rfl
    refine J.iload2 X dX3_victim_35 ?_
    refine J.if_eqN (tgt := 81) X dX3_victim_36 (by decide) (by omega) (fun q9 => absurd q9 (by omega)) (fun _ => ?_)
    refine J.aload0 X dX3_victim_39 ?_
    refine J.callVi X dX3_victim_40 lk_X3_167_X3 ce_X3_both (sa_both F S0) (by decide) rfl (S.o) rfl (fun r h1 e1 _ => ?_)
    obtain ⟨rfl, rfl⟩ := e1
    unfold alets at hT
    refine J.if_leN (tgt := 81) X dX3_victim_43 (by decide) (by omega) (fun cn => ?_) (fun cn => ?_)
    · skip
      rw [if_neg (by omega)] at hT
      cases hT
      exact l2e h _ _ e' D' hl S0 ff _
    · skip
      rw [if_pos (by omega)] at hT
      refine J.aload0 X dX3_victim_46 ?_
      refine J.callVi X dX3_victim_47 lk_X3_170_X3 ce_X3_goesFromProbation (sa_gfp F S0) (by decide) rfl (S.o) rfl (fun r h1 e1 _ => ?_)
      rcases e1 with ⟨e1, rfl, rfl⟩ | ⟨k, D1, e1, rfl, S1, f1⟩
      · rw [e1] at hT
        refine J.if_neN (tgt := 60) X dX3_victim_50 (by decide) (by omega) (fun q9 => absurd q9 (by omega)) (fun _ => ?_)
        refine J.aload0 X dX3_victim_53 ?_
        refine J.callVi X dX3_victim_54 lk_X3_173_X3 ce_X3_goesFromProtected (sa_gfg F S0) (by decide) rfl (S.o) rfl (fun r h1 e2 _ => ?_)
        rcases e2 with ⟨e2, rfl, rfl⟩ | ⟨k, D1, e2, rfl, S1, f1⟩
        · rw [e2] at hT
          cases hT
          refine J.if_eqN (tgt := 64) X dX3_victim_57 (by decide) (by omega) (fun _ => ?_) (fun q9 => absurd q9 (by omega))
          refine J.iconst (v := nI 0) X dX3_victim_64 (by decide) ?_
          refine J.istore2 X dX3_victim_65 ?_
          refine chk _ _ gs e' D' (by omega) (fun z => absurd z (by omega)) S0 ff _ (fun _ => ?_)
          refine J.iload2 X dX3_victim_35 ?_
          refine J.if_eqN (tgt := 81) X dX3_victim_36 (by decide) (by omega) (fun _ => ?_) (fun q9 => absurd q9 (by omega))
          exact l2e h _ _ e' D' hl S0 ff _
        · rw [e2] at hT
          replace S1 : SA K t h1 B (ago s 2 k 4) (va_up C1 9 (k :: gs0).length) k D1 := by rw [va_up_self, va_up_up] at S1; exact S1
          refine J.if_eqN (tgt := 64) X dX3_victim_57 (by decide) (by omega) (fun q9 => absurd q9 (by omega)) (fun _ => ?_)
          refine J.iconst (v := nI 1) X dX3_victim_60 (by decide) ?_
          refine J.goto (tgt := 65) X dX3_victim_61 (by decide) ?_
          refine J.istore2 X dX3_victim_65 ?_
          refine chk _ _ (k :: gs0) k D1 (by rw [List.length_cons]; omega) (rev k _ hT) S1 (ff.tr f1) _ (fun hl' => ?_)
          exact ih _ _ _ _ _ hl' S1 hT (ff.tr f1)
      · rw [e1] at hT
        refine J.if_neN (tgt := 60) X dX3_victim_50 (by decide) (by omega) (fun _ => ?_) (fun q9 => absurd q9 (by omega))
        refine J.iconst (v := nI 1) X dX3_victim_60 (by decide) ?_
        refine J.goto (tgt := 65) X dX3_victim_61 (by decide) ?_
        refine J.istore2 X dX3_victim_65 ?_
        rcases S1 with ⟨c3, S1⟩ | ⟨c3, S1⟩
        · replace hT : (if 0 < s.2.2 3 k then alets 0 f (alife s k) gs0 else alets 0 f (ago s 1 k 3) (k :: gs0)) = some (s2, gs) := hT
          rw [if_pos c3] at hT
          refine chk _ _ gs0 e' D1 (by omega) (fun z => absurd z (by omega)) S1 (ff.tr f1) _ (fun _ => ?_)
          exact ih _ _ _ _ _ hl S1 hT (ff.tr f1)
        · replace hT : (if 0 < s.2.2 3 k then alets 0 f (alife s k) gs0 else alets 0 f (ago s 1 k 3) (k :: gs0)) = some (s2, gs) := hT
          rw [if_neg c3] at hT
          replace S1 : SA K t h1 B (ago s 1 k 3) (va_up C1 9 (k :: gs0).length) k D1 := by rw [va_up_self, va_up_up] at S1; exact S1
          refine chk _ _ (k :: gs0) k D1 (by rw [List.length_cons]; omega) (rev k _ hT) S1 (ff.tr f1) _ (fun hl' => ?_)
          exact ih _ _ _ _ _ hl' S1 hT (ff.tr f1)
