/-! Sketch: takes -/
def mix {α : Type} (n : Nat) (f g : Nat → α) : Nat → α := fun i => if i < n then f i else g i
theorem mix_lt {α : Type} {n : Nat} (f g : Nat → α) {i : Nat} (h : i < n) : mix n f g i = f i := if_pos h
theorem cpy_mix {α β : Type} (F : α → β) (n : Nat) (f g : Nat → α) : va_cpy (fun i => F (f i)) (fun i => F (g i)) 0 0 n = fun i => F (mix n f g i) := by
  funext i
  unfold va_cpy mix
  by_cases c : i < n
  · rw [if_pos ⟨Nat.zero_le _, by omega⟩, if_pos c, Nat.zero_add, Nat.sub_zero]
  · rw [if_neg (fun z => c (by have := z.2; omega)), if_neg c]
theorem cpy_mix0 {α : Type} (n : Nat) (f g : Nat → α) : va_cpy f g 0 0 n = mix n f g := cpy_mix id n f g
theorem fits_b {p : Nat} (h : p < 2) : fits .boolean (.int (nI p)) = true := by
  rcases (show p = 0 ∨ p = 1 by omega) with rfl | rfl <;> decide
theorem SQ.mix {s : AS} {wh wh' : Nat → Nat} {nx ah fi la nx' ah' fi' la' : Nat → Option Nat} {to to' : Nat → Int32} (S : SQ s wh nx ah fi la to) (A : AW s) : SQ s (mix 400 wh wh') (mix 400 nx nx') (mix 400 ah ah') (mix 5 fi fi') (mix 5 la la') (mix 5 to to') := by
  refine ⟨fun i hi => ?_, fun k hk => ?_⟩
  · obtain ⟨d1, d2, d3, d4⟩ := S.1 i hi
    have := hi.2
    rw [mix_lt _ _ (by omega), mix_lt _ _ (by omega), mix_lt _ _ (by omega)]
    exact ⟨d1.congr (fun k hk => ⟨mix_lt _ _ (A.2.2 i k hi hk).1, mix_lt _ _ (A.2.2 i k hi hk).1⟩), d2, d3, d4⟩
  · rw [mix_lt _ _ hk]
    exact S.2 k hk
theorem skB.mix {f g : Nat → Option Nat} {n : Nat} (h : skB f n) : skB (mix n f g) n := fun i hi b hb => h i hi b (by rw [mix_lt _ _ hi] at hb; exact hb)
theorem sa_takes {K : JK} {l : Launch} {hE : JIH} {t t' B B' : Nat} {s : AS} {C : Nat → Nat} {e : Nat} {D : Nat → Prop} (F : JF K) (Z : SZ K t hE B) (S' : SA K t' hE B' s C e D) (htt : t ≠ t') :
    Ct K l yX3_takes wX3_takes 2 [.ref B, .ref B'] hE (jRv (fun h' => (∃ C' e' D', SA K t h' B s C' e' D' ∧ C' 2 = C 2 ∧ C' 3 = C 3 ∧ C' 4 = 0) ∧ SF t hE h')) jNo := by
  obtain ⟨C0, e0, wh0, nx0, ah0, wt0, ht0, ch0, pn0, fi0, la0, to0, T, g1, g5⟩ := Z
  obtain ⟨wh, nx, ah, wt, ht, ch, pn, fi, la, to, T', g1', g2, g3, g4, g5', A⟩ := S'
  have hd : ∀ j, j < 11 → B' + j < B ∨ B + 11 ≤ B' + j := fun j hj => by
    by_cases c : B ≤ B' + j ∧ B' + j < B + 11
    · exfalso
      have := g1.2.2 (B' + j - B) (by omega)
      rw [show B + (B' + j - B) = B' + j by omega, g1'.2.2 j hj] at this
      exact htt this.symm
    · omega
  have o : ∀ {h : JIH} (j : Nat) {x : va_E}, j < 11 → SkF hE h B → hget hE (B' + j) = some x → hget h (B' + j) = some x := fun {h} j {x} hj f z => (f.2.2.2.2 _ (hd j hj)).trans z
  obtain ⟨r0, r1, r2, r3, r4, r5, r6, r7, r8, r9, r10⟩ := T'
  refine st_X3_takes (ls := [some (.ref B), some (.ref B')]) F rfl (body := fun M X => ?_)
  have S := T.S
  refine J.aload1 X dX3_takes_0 ?_
  refine J.getf X dX3_takes_1 fl_X3_11_X3 (o 0 (by decide) S.2 r0) rfl ?_
  refine J.iconst (v := nI 0) X dX3_takes_4 (by decide) ?_
  refine J.aload0 X dX3_takes_5 ?_
  refine J.getf X dX3_takes_6 fl_X3_11_X3 (S.o) rfl ?_
  refine J.iconst (v := nI 0) X dX3_takes_9 (by decide) ?_
  refine J.sipush (v := nI 400) X dX3_takes_10 (by decide) ?_
  refine J.copyI (t := 0) (ty := .int) (n := 400) (sp := 0) (dp := 0) X dX3_takes_13 q2490 (o 1 (by decide) S.2 r1) S.r_wh rfl rfl (fun _ _ => rfl) (by decide) (by decide) (by decide) (by decide) (by decide) ?_
  rw [show (va_cpy _ _ 0 0 400 : Nat → Int32) = _ from cpy_mix nI 400 wh wh0]
  have S1 := S.w_wh (x' := mix 400 wh wh0)
  revert S1
  generalize hset hE (B + 1) (jA K 0 400 (fun i => nI (mix 400 wh wh0 i))) = h1
  clear S
  intro S
  refine J.aload1 X dX3_takes_16 ?_
  refine J.getf X dX3_takes_17 fl_X3_15_X3 (o 0 (by decide) S.2 r0) rfl ?_
  refine J.iconst (v := nI 0) X dX3_takes_20 (by decide) ?_
  refine J.aload0 X dX3_takes_21 ?_
  refine J.getf X dX3_takes_22 fl_X3_15_X3 (S.o) rfl ?_
  refine J.iconst (v := nI 0) X dX3_takes_25 (by decide) ?_
  refine J.sipush (v := nI 400) X dX3_takes_26 (by decide) ?_
  refine J.copyI (t := 0) (ty := .int) (n := 400) (sp := 0) (dp := 0) X dX3_takes_29 q2490 (o 2 (by decide) S.2 r2) S.r_nx rfl rfl (fun _ _ => rfl) (by decide) (by decide) (by decide) (by decide) (by decide) ?_
  rw [show (va_cpy _ _ 0 0 400 : Nat → Int32) = _ from cpy_mix bI 400 nx nx0]
  have S1 := S.w_nx (x' := mix 400 nx nx0)
  revert S1
  generalize hset h1 (B + 2) (jA K 0 400 (fun i => bI (mix 400 nx nx0 i))) = h2
  clear S
  intro S
  refine J.aload1 X dX3_takes_32 ?_
  refine J.getf X dX3_takes_33 fl_X3_18_X3 (o 0 (by decide) S.2 r0) rfl ?_
  refine J.iconst (v := nI 0) X dX3_takes_36 (by decide) ?_
  refine J.aload0 X dX3_takes_37 ?_
  refine J.getf X dX3_takes_38 fl_X3_18_X3 (S.o) rfl ?_
  refine J.iconst (v := nI 0) X dX3_takes_41 (by decide) ?_
  refine J.sipush (v := nI 400) X dX3_takes_42 (by decide) ?_
  refine J.copyI (t := 0) (ty := .int) (n := 400) (sp := 0) (dp := 0) X dX3_takes_45 q2490 (o 3 (by decide) S.2 r3) S.r_ah rfl rfl (fun _ _ => rfl) (by decide) (by decide) (by decide) (by decide) (by decide) ?_
  rw [show (va_cpy _ _ 0 0 400 : Nat → Int32) = _ from cpy_mix bI 400 ah ah0]
  have S1 := S.w_ah (x' := mix 400 ah ah0)
  revert S1
  generalize hset h2 (B + 3) (jA K 0 400 (fun i => bI (mix 400 ah ah0 i))) = h3
  clear S
  intro S
  refine J.aload1 X dX3_takes_48 ?_
  refine J.getf X dX3_takes_49 fl_X3_21_X3 (o 0 (by decide) S.2 r0) rfl ?_
  refine J.iconst (v := nI 0) X dX3_takes_52 (by decide) ?_
  refine J.aload0 X dX3_takes_53 ?_
  refine J.getf X dX3_takes_54 fl_X3_21_X3 (S.o) rfl ?_
  refine J.iconst (v := nI 0) X dX3_takes_57 (by decide) ?_
  refine J.sipush (v := nI 400) X dX3_takes_58 (by decide) ?_
  refine J.copyI (t := 0) (ty := .int) (n := 400) (sp := 0) (dp := 0) X dX3_takes_61 q2490 (o 4 (by decide) S.2 r4) S.r_wt rfl rfl (fun _ _ => rfl) (by decide) (by decide) (by decide) (by decide) (by decide) ?_
  rw [show (va_cpy _ _ 0 0 400 : Nat → Int32) = _ from cpy_mix0 400 wt wt0]
  have S1 := S.w_wt (x' := mix 400 wt wt0)
  revert S1
  generalize hset h3 (B + 4) (jA K 0 400 ((mix 400 wt wt0))) = h4
  clear S
  intro S
  refine J.aload1 X dX3_takes_64 ?_
  refine J.getf X dX3_takes_65 fl_X3_24_X3 (o 0 (by decide) S.2 r0) rfl ?_
  refine J.iconst (v := nI 0) X dX3_takes_68 (by decide) ?_
  refine J.aload0 X dX3_takes_69 ?_
  refine J.getf X dX3_takes_70 fl_X3_24_X3 (S.o) rfl ?_
  refine J.iconst (v := nI 0) X dX3_takes_73 (by decide) ?_
  refine J.sipush (v := nI 400) X dX3_takes_74 (by decide) ?_
  refine J.copyI (t := 0) (ty := .int) (n := 400) (sp := 0) (dp := 0) X dX3_takes_77 q2490 (o 5 (by decide) S.2 r5) S.r_ht rfl rfl (fun _ _ => rfl) (by decide) (by decide) (by decide) (by decide) (by decide) ?_
  rw [show (va_cpy _ _ 0 0 400 : Nat → Int32) = _ from cpy_mix0 400 ht ht0]
  have S1 := S.w_ht (x' := mix 400 ht ht0)
  revert S1
  generalize hset h4 (B + 5) (jA K 0 400 ((mix 400 ht ht0))) = h5
  clear S
  intro S
  refine J.aload1 X dX3_takes_80 ?_
  refine J.getf X dX3_takes_81 fl_X3_27_X3 (o 0 (by decide) S.2 r0) rfl ?_
  refine J.iconst (v := nI 0) X dX3_takes_84 (by decide) ?_
  refine J.aload0 X dX3_takes_85 ?_
  refine J.getf X dX3_takes_86 fl_X3_27_X3 (S.o) rfl ?_
  refine J.iconst (v := nI 0) X dX3_takes_89 (by decide) ?_
  refine J.sipush (v := nI 400) X dX3_takes_90 (by decide) ?_
  refine J.copyI (t := 0) (ty := .int) (n := 400) (sp := 0) (dp := 0) X dX3_takes_93 q2490 (o 6 (by decide) S.2 r6) S.r_ch rfl rfl (fun _ _ => rfl) (by decide) (by decide) (by decide) (by decide) (by decide) ?_
  rw [show (va_cpy _ _ 0 0 400 : Nat → Int32) = _ from cpy_mix0 400 ch ch0]
  have S1 := S.w_ch (x' := mix 400 ch ch0)
  revert S1
  generalize hset h5 (B + 6) (jA K 0 400 ((mix 400 ch ch0))) = h6
  clear S
  intro S
  refine J.aload1 X dX3_takes_96 ?_
  refine J.getf X dX3_takes_97 fl_X3_30_X3 (o 0 (by decide) S.2 r0) rfl ?_
  refine J.iconst (v := nI 0) X dX3_takes_100 (by decide) ?_
  refine J.aload0 X dX3_takes_101 ?_
  refine J.getf X dX3_takes_102 fl_X3_30_X3 (S.o) rfl ?_
  refine J.iconst (v := nI 0) X dX3_takes_105 (by decide) ?_
  refine J.sipush (v := nI 400) X dX3_takes_106 (by decide) ?_
  refine J.copyI (t := 4) (ty := .boolean) (n := 400) (sp := 0) (dp := 0) X dX3_takes_109 q2490 (o 7 (by decide) S.2 r7) S.r_pn rfl rfl (fun i _ => fits_b (g5'.2.2.2.2 _)) (by decide) (by decide) (by decide) (by decide) (by decide) ?_
  rw [show (va_cpy _ _ 0 0 400 : Nat → Int32) = _ from cpy_mix nI 400 pn pn0]
  have S1 := S.w_pn (x' := mix 400 pn pn0)
  revert S1
  generalize hset h6 (B + 7) (jA K 4 400 (fun i => nI (mix 400 pn pn0 i))) = h7
  clear S
  intro S
  refine J.aload1 X dX3_takes_112 ?_
  refine J.getf X dX3_takes_113 fl_X3_34_X3 (o 0 (by decide) S.2 r0) rfl ?_
  refine J.iconst (v := nI 0) X dX3_takes_116 (by decide) ?_
  refine J.aload0 X dX3_takes_117 ?_
  refine J.getf X dX3_takes_118 fl_X3_34_X3 (S.o) rfl ?_
  refine J.iconst (v := nI 0) X dX3_takes_121 (by decide) ?_
  refine J.iconst (v := nI 5) X dX3_takes_122 (by decide) ?_
  refine J.copyI (t := 0) (ty := .int) (n := 5) (sp := 0) (dp := 0) X dX3_takes_123 q2490 (o 8 (by decide) S.2 r8) S.r_fi rfl rfl (fun _ _ => rfl) (by decide) (by decide) (by decide) (by decide) (by decide) ?_
  rw [show (va_cpy _ _ 0 0 5 : Nat → Int32) = _ from cpy_mix bI 5 fi fi0]
  have S1 := S.w_fi (x' := mix 5 fi fi0)
  revert S1
  generalize hset h7 (B + 8) (jA K 0 5 (fun i => bI (mix 5 fi fi0 i))) = h8
  clear S
  intro S
  refine J.aload1 X dX3_takes_126 ?_
  refine J.getf X dX3_takes_127 fl_X3_37_X3 (o 0 (by decide) S.2 r0) rfl ?_
  refine J.iconst (v := nI 0) X dX3_takes_130 (by decide) ?_
  refine J.aload0 X dX3_takes_131 ?_
  refine J.getf X dX3_takes_132 fl_X3_37_X3 (S.o) rfl ?_
  refine J.iconst (v := nI 0) X dX3_takes_135 (by decide) ?_
  refine J.iconst (v := nI 5) X dX3_takes_136 (by decide) ?_
  refine J.copyI (t := 0) (ty := .int) (n := 5) (sp := 0) (dp := 0) X dX3_takes_137 q2490 (o 9 (by decide) S.2 r9) S.r_la rfl rfl (fun _ _ => rfl) (by decide) (by decide) (by decide) (by decide) (by decide) ?_
  rw [show (va_cpy _ _ 0 0 5 : Nat → Int32) = _ from cpy_mix bI 5 la la0]
  have S1 := S.w_la (x' := mix 5 la la0)
  revert S1
  generalize hset h8 (B + 9) (jA K 0 5 (fun i => bI (mix 5 la la0 i))) = h9
  clear S
  intro S
  refine J.aload1 X dX3_takes_140 ?_
  refine J.getf X dX3_takes_141 fl_X3_40_X3 (o 0 (by decide) S.2 r0) rfl ?_
  refine J.iconst (v := nI 0) X dX3_takes_144 (by decide) ?_
  refine J.aload0 X dX3_takes_145 ?_
  refine J.getf X dX3_takes_146 fl_X3_40_X3 (S.o) rfl ?_
  refine J.iconst (v := nI 0) X dX3_takes_149 (by decide) ?_
  refine J.iconst (v := nI 5) X dX3_takes_150 (by decide) ?_
  refine J.copyI (t := 0) (ty := .int) (n := 5) (sp := 0) (dp := 0) X dX3_takes_151 q2490 (o 10 (by decide) S.2 r10) S.r_to rfl rfl (fun _ _ => rfl) (by decide) (by decide) (by decide) (by decide) (by decide) ?_
  rw [show (va_cpy _ _ 0 0 5 : Nat → Int32) = _ from cpy_mix0 5 to to0]
  have S1 := S.w_to (x' := mix 5 to to0)
  revert S1
  generalize hset h9 (B + 10) (jA K 0 5 ((mix 5 to to0))) = h10
  clear S
  intro S
  refine J.aload0 X dX3_takes_154 ?_
  refine J.aload1 X dX3_takes_155 ?_
  refine J.getf X dX3_takes_156 fl_X3_123_X3 (o 0 (by decide) S.2 r0) rfl ?_
  refine J.sk_s2 X dX3_takes_159 (pl_X3_123_X3 _) S (rfl) (rfl) (fun h S => ?_)
  refine J.aload0 X dX3_takes_162 ?_
  refine J.aload1 X dX3_takes_163 ?_
  refine J.getf X dX3_takes_164 fl_X3_127_X3 (o 0 (by decide) S.2 r0) rfl ?_
  refine J.sk_s3 X dX3_takes_167 (pl_X3_127_X3 _) S (rfl) (rfl) (fun h S => ?_)
  refine J.aload0 X dX3_takes_170 ?_
  refine J.iconst (v := nI 0) X dX3_takes_171 (by decide) ?_
  refine J.sk_s4 X dX3_takes_172 (pl_X3_128_X3 _) S (rfl) (rfl) (fun h S => ?_)
  refine J.vreturn X dX3_takes_175 (jRv.of ?_)
  have f9 := S.2.SF g1
  refine ⟨⟨va_up (va_up (va_up C0 2 (C 2)) 3 (C 3)) 4 0, e0, fun k => D k ∧ k < 400, ⟨_, _, _, _, _, _, _, _, _, _, S.1, f9.2, g2.mix A, fun k hk => ?_, fun i k hi hk => ⟨g4 i k hi hk, (A.2.2 i k hi hk).1⟩, ⟨g5'.1.mix, g5'.2.1.mix, g5'.2.2.1.mix, g5'.2.2.2.1.mix, fun k => ?_⟩, A⟩, rfl, rfl, rfl⟩, f9.1⟩
  · rw [mix_lt _ _ hk.2, mix_lt _ _ hk.2, mix_lt _ _ hk.2, mix_lt _ _ hk.2]
    exact g3 k hk.1
  · unfold mix
    split
    · exact g5'.2.2.2.2 k
    · exact g5.2.2.2.2 k
