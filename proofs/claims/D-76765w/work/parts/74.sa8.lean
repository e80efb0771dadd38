/-! Sketch: empties, of -/
def SZ (K : JK) (t : Nat) (h : JIH) (B : Nat) : Prop :=
  ∃ (C : Nat → Nat) (e : Nat) (wh : Nat → Nat) (nx ah : Nat → Option Nat) (wt ht ch : Nat → Int32) (pn : Nat → Nat) (fi la : Nat → Option Nat) (to : Nat → Int32), SkR K h B wh nx ah wt ht ch pn fi la to (nI (C 0)) (nI (C 1)) (nI (C 2)) (nI (C 3)) (nI (C 4)) (nI (C 5)) (nI (C 6)) (nI (C 9)) (nI e) ∧ ST t h B ∧ SB nx ah fi la pn
theorem SA.z {K : JK} {t : Nat} {h : JIH} {B : Nat} {s : AS} {C : Nat → Nat} {e : Nat} {D : Nat → Prop} (S : SA K t h B s C e D) : SZ K t h B := by
  obtain ⟨wh, nx, ah, wt, ht, ch, pn, fi, la, to, T, g1, g2, g3, g4, g5, A⟩ := S
  exact ⟨C, e, wh, nx, ah, wt, ht, ch, pn, fi, la, to, T, g1, g5⟩
theorem SZ.fr {K : JK} {t : Nat} {h h' : JIH} {B : Nat} {T : Nat → Prop} (S : SZ K t h B) (f : Fr T h h') (ht : ¬ T t) : SZ K t h' B := by
  obtain ⟨C, e, wh, nx, ah, wt, ht', ch, pn, fi, la, to, R, g1, g5⟩ := S
  have c : ∀ j x, j < 11 → hget h (B + j) = some x → hget h' (B + j) = some x := fun j x hj hx => (hc.fr ⟨hx, g1.2.2 j hj⟩ f ht).1
  obtain ⟨r0, r1, r2, r3, r4, r5, r6, r7, r8, r9, r10⟩ := R
  exact ⟨C, e, wh, nx, ah, wt, ht', ch, pn, fi, la, to, ⟨c 0 _ (by decide) r0, c 1 _ (by decide) r1, c 2 _ (by decide) r2, c 3 _ (by decide) r3, c 4 _ (by decide) r4, c 5 _ (by decide) r5, c 6 _ (by decide) r6, c 7 _ (by decide) r7, c 8 _ (by decide) r8, c 9 _ (by decide) r9, c 10 _ (by decide) r10⟩, ⟨Nat.le_trans g1.1 f.2.1, by rw [f.1]; exact g1.2.1, fun j hj => (f.2.2.1 _ (by have := g1.1; omega)).trans (g1.2.2 j hj)⟩, g5⟩
def aempty (s : AS) : AS := (fun _ => [], s.2)
theorem aempty_w (s : AS) : AW (aempty s) := ⟨fun i j k _ _ h => (by cases h), fun i _ => List.nodup_nil, fun i k _ h => (by cases h)⟩
theorem sa_empties {K : JK} {l : Launch} {hE : JIH} {t B : Nat} (F : JF K) (Z : SZ K t hE B) (s : AS) :
    Ct K l yX3_empties wX3_empties 0 [.ref B] hE (jRv (fun h' => (∃ C e, SA K t h' B (aempty s) C e (fun _ => False)) ∧ SF t hE h')) jNo := by
  obtain ⟨C, e, wh, nx, ah, wt, ht, ch, pn, fi, la, to, T, g1, g5⟩ := Z
  refine st_X3_empties (ls := [some (.ref B), none]) F rfl (body := fun M X => ?_)
  refine J.iconst (v := nI 0) X dX3_empties_0 (by decide) ?_
  refine J.istore1 X dX3_empties_1 ?_
  suffices l1 : ∀ (r j : Nat) (h : JIH) (fi la : Nat → Option Nat) (to : Nat → Int32), j + r = 5 → SkS K hE h B wh nx ah wt ht ch pn fi la to (nI (C 0)) (nI (C 1)) (nI (C 2)) (nI (C 3)) (nI (C 4)) (nI (C 5)) (nI (C 6)) (nI (C 9)) (nI e) → skB fi 5 → skB la 5 → (∀ i, i < j → fi i = none ∧ la i = none ∧ to i = nI 0) → J M h 2 [some (.ref B), some (.int (nI j))] [] from l1 5 0 hE fi la to rfl T.S g5.2.2.1 g5.2.2.2.1 (fun i hi => absurd hi (by omega))
  intro r
  induction r with
  | zero =>
    intro j h fi la to hj S b1 b2 hz
    have hj5 : j = 5 := by omega
    subst hj5
    refine J.iload1 X dX3_empties_2 ?_
    refine J.iconst (v := nI 4) X dX3_empties_3 (by decide) ?_
    refine J.icmp_gtN (tgt := 34) X dX3_empties_4 (by decide) (by omega) (by omega) (fun _ => ?_) (fun q9 => absurd q9 (by omega))
    refine J.iconst (v := nI 0) X dX3_empties_34 (by decide) ?_
    refine J.istore1 X dX3_empties_35 ?_
    suffices l2 : ∀ (r j : Nat) (h : JIH) (wh : Nat → Nat), j + r = 400 → SkS K hE h B wh nx ah wt ht ch pn fi la to (nI (C 0)) (nI (C 1)) (nI (C 2)) (nI (C 3)) (nI (C 4)) (nI (C 5)) (nI (C 6)) (nI (C 9)) (nI e) → (∀ i, i < j → wh i = 0) → J M h 36 [some (.ref B), some (.int (nI j))] [] from l2 400 0 h wh rfl S (fun i hi => absurd hi (by omega))
    clear S
    intro r
    induction r with
    | zero =>
      intro j h wh hj S hw
      have hj4 : j = 400 := by omega
      subst hj4
      refine J.iload1 X dX3_empties_36 ?_
      refine J.sipush (v := nI 400) X dX3_empties_37 (by decide) ?_
      refine J.icmp_geN (tgt := 56) X dX3_empties_40 (by decide) (by omega) (by omega) (fun _ => ?_) (fun q9 => absurd q9 (by omega))
      refine J.vreturn X dX3_empties_56 (jRv.of ?_)
      refine ⟨⟨C, e, wh, nx, ah, wt, ht, ch, pn, fi, la, to, S.1, (S.2.SF g1).2, ⟨fun i hi => ?_, fun k hk => ?_⟩, fun k hk => hk.elim, fun i k _ h => (by cases h), ⟨g5.1, g5.2.1, b1, b2, g5.2.2.2.2⟩, aempty_w s⟩, (S.2.SF g1).1⟩
      · have := hz i (by have := hi.2; omega)
        exact ⟨trivial, this.1, this.2.1, this.2.2⟩
      · rw [hw k hk]
        exact ⟨Nat.zero_le _, fun i hi => ⟨fun z => absurd hi.1 (by omega), fun z => (by cases z)⟩⟩
    | succ r ih =>
      intro j h wh hj S hw
      refine J.iload1 X dX3_empties_36 ?_
      refine J.sipush (v := nI 400) X dX3_empties_37 (by decide) ?_
      refine J.icmp_geN (tgt := 56) X dX3_empties_40 (by decide) (by omega) (by omega) (fun q9 => absurd q9 (by omega)) (fun _ => ?_)
      refine J.aload0 X dX3_empties_43 ?_
      refine J.getf X dX3_empties_44 fl_X3_11_X3 (S.o) rfl ?_
      refine J.iload1 X dX3_empties_47 ?_
      refine J.iconst (v := nI 0) X dX3_empties_48 (by decide) ?_
      refine J.sk_wh X dX3_empties_49 S (rfl) (by omega) (fun h S => ?_)
      refine J.iinc1N (d := 1) X dX3_empties_50 (by decide) ?_
      refine J.goto (tgt := 36) X dX3_empties_53 (by decide) ?_
      refine ih (j + 1) _ _ (by omega) S (fun i hi => ?_)
      rw [va_up_at]
      split
      · rfl
      · exact hw i (by omega)
  | succ r ih =>
    intro j h fi la to hj S b1 b2 hz
    refine J.iload1 X dX3_empties_2 ?_
    refine J.iconst (v := nI 4) X dX3_empties_3 (by decide) ?_
    refine J.icmp_gtN (tgt := 34) X dX3_empties_4 (by decide) (by omega) (by omega) (fun q9 => absurd q9 (by omega)) (fun _ => ?_)
    refine J.aload0 X dX3_empties_7 ?_
    refine J.getf X dX3_empties_8 fl_X3_34_X3 (S.o) rfl ?_
    refine J.iload1 X dX3_empties_11 ?_
    refine J.iconst (v := -1) X dX3_empties_12 (by decide) ?_
    refine J.sk_fiM X dX3_empties_13 S (rfl) (by omega) (fun h S => ?_)
    refine J.aload0 X dX3_empties_14 ?_
    refine J.getf X dX3_empties_15 fl_X3_37_X3 (S.o) rfl ?_
    refine J.iload1 X dX3_empties_18 ?_
    refine J.iconst (v := -1) X dX3_empties_19 (by decide) ?_
    refine J.sk_laM X dX3_empties_20 S (rfl) (by omega) (fun h S => ?_)
    refine J.aload0 X dX3_empties_21 ?_
    refine J.getf X dX3_empties_22 fl_X3_40_X3 (S.o) rfl ?_
    refine J.at (pc' := 25) rfl ?_
    refine J.iload1 X dX3_empties_25 ?_
    refine J.iconst (v := nI 0) X dX3_empties_26 (by decide) ?_
    refine J.sk_to X dX3_empties_27 S (rfl) (by omega) (fun h S => ?_)
    refine J.iinc1N (d := 1) X dX3_empties_28 (by decide) ?_
    refine J.goto (tgt := 2) X dX3_empties_31 (by decide) ?_
    refine ih (j + 1) _ _ _ _ (by omega) S (fun i hi b hb => ?_) (fun i hi b hb => ?_) (fun i hi => ?_)
    · rw [va_up_at] at hb
      split at hb
      · cases hb
      · exact b1 i hi b hb
    · rw [va_up_at] at hb
      split at hb
      · cases hb
      · exact b2 i hi b hb
    · rw [va_up_at, va_up_at, upd_at]
      by_cases ei : i = j
      · rw [if_pos ei, if_pos ei, if_pos ei]
        exact ⟨rfl, rfl, rfl⟩
      · rw [if_neg ei, if_neg ei, if_neg ei]
        exact hz i (by omega)
