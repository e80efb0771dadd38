/-! SegmentedCache: image -/
def gI (z : Nat) : Prop := CT 16 z ∨ CT 32 z ∨ z = 7 ∨ z = 8 ∨ z = 61 ∨ z = 62 ∨ z = 63 ∨ z = 64
theorem gI.not {z : Nat} (h : z = 1 ∨ z = 2 ∨ z = 3 ∨ z = 4 ∨ z = 5 ∨ z = 12 ∨ (48 ≤ z ∧ z ≤ 60) ∨ 65 ≤ z) : ¬ gI z := fun q => by
  unfold gI CT at q
  omega
theorem GX.im {K : JK} {h h' : JIH} {o : Nat} {p : GP} {g : GA} {tz tzi tz' tzi' : Nat} (S : GX K h o p g tz tzi) (f : Fr gI h h') (g' : GA) (e1 : g'.tx = g.tx) (e2 : g'.cls = g.cls) (e3 : g'.tp = g.tp) (ho : hc h' 8 o (jO 0 (x0O p g'))) (c1 : ∃ ta D, CC K 16 h' p.c p.y g'.x.1 g'.x.2.1 g'.x.2.2 ta D tz') (c2 : ∃ ta D, CC K 32 h' p.ci p.yi g'.xi.1 g'.xi.2.1 g'.xi.2.2 ta D tzi') (b1 : GB K h' 61 p.bk p.bw g'.bk) (b2 : GB K h' 63 p.ibk p.ibw g'.ib) (q1 : BC g'.x.2.1) (q2 : BC g'.xi.2.1) (q3 : g'.hi ≤ 1) : GX K h' o p g' tz' tzi' := by
  obtain ⟨s1, s2, s3, s4, s5, s6, s7, s8, s9, s10, s11, s12, s13⟩ := S
  refine ⟨ho, c1, c2, s4.fr f (gI.not (by omega)), s5.fr f (gI.not (by omega)), ?_, ?_, b1, b2, ?_, q1, q2, q3⟩
  · rw [e1]; exact s6.fr f (gI.not (by omega))
  · rw [e2]; exact s7.fr f (gI.not (by omega)) (gI.not (by omega)) (gI.not (by omega)) (fun i _ => gI.not (by omega))
  · rw [e3]
    obtain ⟨⟨q, c, r⟩, w⟩ := s10
    refine ⟨⟨q, c.fr f (gI.not (by omega)), r⟩, fun i hi => ?_⟩
    obtain ⟨r, c, v⟩ := w i hi
    exact ⟨r, c.fr f (gI.not (by omega)), v.fr f (gI.not (by omega))⟩
/-- a book copied -/
theorem GB.copy {K : JK} {h h' : JIH} {t a w t' a' w' : Nat} {bk bk' : List (Nat × Nat)} {f f' : Nat → Option Nat} {v v' : Nat → Int32} (S : ∀ i q, bk[i]? = some q → v i = nI q.2 ∧ q.2 ≤ 4 ∧ ∃ b, f i = some b ∧ IsKey h' b q.1) (S2 : ∀ i b, f i = some b → ∃ k, IsKey h' b k) (hl : bk.length ≤ 8) (S3 : ∀ i b, f' i = some b → ∃ k, IsKey h' b k) (c1 : hc h' t' a' (jAR K 7 8 (va_cpy f f' 0 0 8))) (c2 : hc h' (t' + 1) w' (jA K 0 8 (va_cpy v v' 0 0 8))) : GB K h' t' a' w' bk := by
  rw [cpy_mix0] at c1 c2
  refine ⟨_, _, c1, c2, fun i q hq => ?_, fun i b hb => ?_, hl⟩
  · have hi := (List.getElem?_eq_some_iff.mp hq).1
    rw [mix_lt _ _ (by omega), mix_lt _ _ (by omega)]
    exact S i q hq
  · unfold mix at hb
    split at hb
    · exact S2 i b hb
    · exact S3 i b hb
theorem x_image {K : JK} {l : Launch} {hE : JIH} {o : Nat} {p : GP} {g : GA} {tz tzi : Nat} (F : JF K) (S : GX K hE o p g tz tzi) (rm : RM hE tzi (28 * sl g.x.1.1 4 + 3000)) :
    Ct K l yX0_image wX0_image 12 [.ref o] hE (jRi (fun r0 h' => r0 = nI ((g.x.1.1 1).length + (g.x.1.1 2).length) ∧ (∃ tzi', GX K h' o p (((g.wxi g.x).wib g.bk).whi 1) tz tzi' ∧ hres h' + tzi ≤ hres hE + (28 * sl g.x.1.1 4 + 1100) + tzi') ∧ Fr n5 hE h')) jNo := by
  have so := S.o
  obtain ⟨ta, D, S1⟩ := S.cc
  obtain ⟨ta2, D2, S2⟩ := S.2.2.1
  have hB := S.bc
  refine st_X0_image (ls := [some (.ref o)]) F rfl (body := fun M X => ?_)
  refine J.aload0 X dX0_image_0 ?_
  refine J.getf X dX0_image_1 fl_X0_60_X0 (so.1) rfl ?_
  refine J.aload0 X dX0_image_4 ?_
  refine J.getf X dX0_image_5 fl_X0_18_X0 (so.1) rfl ?_
  refine J.callVv X dX0_image_8 lk_X0_333_X1 ce_X1_takes (k_takes F (Or.inr ⟨rfl, rfl⟩) S2 S1 rm) (by decide) rfl (S2.o.1) rfl (fun h1 e _ => ?_)
  obtain ⟨ta1, D1, tz1, S3, S4, f1, e1⟩ := e
  have g1 : Fr gI hE h1 := f1.mono (fun z hz => by rcases hz with q | q | q; exact Or.inr (Or.inl q); exact Or.inl q; exact Or.inr (Or.inr (Or.inl q)))
  have nf1 : ∀ z, z = 1 ∨ z = 8 ∨ (61 ≤ z ∧ z ≤ 64) → ¬ (CT 32 z ∨ CT 16 z ∨ z = 7) := fun z hz q => by unfold CT at q; omega
  have so1 := so.fr f1 (nf1 _ (by omega))
  have b1 := S.gb.fr f1 (nf1 _ (by omega)) (nf1 _ (by omega)) (nf1 _ (by omega))
  have b2 := (show GB K hE 63 p.ibk p.ibw g.ib from S.2.2.2.2.2.2.2.2.1).fr f1 (nf1 _ (by omega)) (nf1 _ (by omega)) (nf1 _ (by omega))
  have B1 := b1
  obtain ⟨f, v, c1, c2, k1, k2, k3⟩ := b1
  obtain ⟨f', v', c1', c2', k1', k2', k3'⟩ := b2
  have n1 : p.ibk ≠ o := c1'.apT so1 (by decide)
  have n2 : p.ibw ≠ o := c2'.apT so1 (by decide)
  refine J.aload0 X dX0_image_11 ?_
  refine J.getf X dX0_image_12 fl_X0_45_X0 (so1.1) rfl ?_
  refine J.iconst (v := nI 0) X dX0_image_15 (by decide) ?_
  refine J.aload0 X dX0_image_16 ?_
  refine J.getf X dX0_image_17 fl_X0_63_X0 (so1.1) rfl ?_
  refine J.iconst (v := nI 0) X dX0_image_20 (by decide) ?_
  refine J.bipush (v := nI 8) X dX0_image_21 (by decide) ?_
  refine J.copyQ (t0 := 7) (t1 := 7) (n := 8) (sp := 0) (dp := 0) X dX0_image_23 q2643 c1.1 c1'.1 rfl rfl jcl_8 (Or.inl rfl) (fun i _ y hy => (by obtain ⟨k, z⟩ := k2 (0 + i) y hy; exact ⟨_, z.2.1⟩)) (by decide) (by decide) (by decide) (by decide) (by decide) ?_
  have d1 := c1'.same (jAR K 7 8 (va_cpy f f' 0 0 8))
  have d2 := c2'.ne (jAR K 7 8 (va_cpy f f' 0 0 8)) (c1'.apT c2' (by decide))
  have d3 := c2.ne (jAR K 7 8 (va_cpy f f' 0 0 8)) (c1'.apT c2 (by decide))
  have so2 := so1.ne (jAR K 7 8 (va_cpy f f' 0 0 8)) n1
  have f2 : Fr (fun z => z = 8 ∨ z = 63 ∨ z = 64) h1 (hset h1 p.ibk (jAR K 7 8 (va_cpy f f' 0 0 8))) := Fr.set c1' (Or.inr (Or.inl rfl))
  have r2 : hres (hset h1 p.ibk (jAR K 7 8 (va_cpy f f' 0 0 8))) = hres h1 := by refine hres_setS c1' ?_; rfl
  generalize hset h1 p.ibk (jAR K 7 8 (va_cpy f f' 0 0 8)) = h2 at d1 d2 d3 so2 f2 r2
  refine J.aload0 X dX0_image_26 ?_
  refine J.getf X dX0_image_27 fl_X0_49_X0 (so2.1) rfl ?_
  refine J.iconst (v := nI 0) X dX0_image_30 (by decide) ?_
  refine J.aload0 X dX0_image_31 ?_
  refine J.getf X dX0_image_32 fl_X0_66_X0 (so2.1) rfl ?_
  refine J.iconst (v := nI 0) X dX0_image_35 (by decide) ?_
  refine J.bipush (v := nI 8) X dX0_image_36 (by decide) ?_
  refine J.copyI (t := 0) (ty := .int) (n := 8) (sp := 0) (dp := 0) X dX0_image_38 q2643 d3.1 d2.1 rfl rfl (fun _ _ => rfl) (by decide) (by decide) (by decide) (by decide) (by decide) ?_
  have d4 := d1.ne (jA K 0 8 (va_cpy v v' 0 0 8)) (d2.apT d1 (by decide))
  have d5 := d2.same (jA K 0 8 (va_cpy v v' 0 0 8))
  have so3 := so2.ne (jA K 0 8 (va_cpy v v' 0 0 8)) n2
  have f3 : Fr (fun z => z = 8 ∨ z = 63 ∨ z = 64) h2 (hset h2 p.ibw (jA K 0 8 (va_cpy v v' 0 0 8))) := Fr.set d2 (Or.inr (Or.inr rfl))
  have r3 : hres (hset h2 p.ibw (jA K 0 8 (va_cpy v v' 0 0 8))) = hres h2 := by refine hres_setS d2 ?_; rfl
  generalize hset h2 p.ibw (jA K 0 8 (va_cpy v v' 0 0 8)) = h3 at d4 d5 so3 f3 r3
  have s31 := so3.1
  refine J.fresh s31 ?_
  have so31 : ∀ e, hget (hset h3 o e) o = some e := fun e => hget_set_same e s31
  refine J.aload0 X dX0_image_41 ?_
  refine J.aload0 X dX0_image_42 ?_
  refine J.getf X dX0_image_43 fl_X0_296_X0 (so31 _) rfl ?_
  refine J.putfS X dX0_image_46 (pl_X0_342_X0 _) (s31) (Nat.le_of_ble_eq_true rfl) (rfl) (rfl) ?_
  refine J.aload0 X dX0_image_49 ?_
  refine J.iconst (v := nI 1) X dX0_image_50 (by decide) ?_
  refine J.putfS X dX0_image_51 (pl_X0_345_X0 _) (s31) (Nat.le_of_ble_eq_true rfl) (rfl) (rfl) ?_
  have so4 := so3.same (jO 0 (x0O p (((g.wxi g.x).wib g.bk).whi 1)))
  have d6 := d4.ne (jO 0 (x0O p (((g.wxi g.x).wib g.bk).whi 1))) n1.symm
  have d7 := d5.ne (jO 0 (x0O p (((g.wxi g.x).wib g.bk).whi 1))) n2.symm
  have f4 : Fr (fun z => z = 8 ∨ z = 63 ∨ z = 64) h3 (hset h3 o (jO 0 (x0O p (((g.wxi g.x).wib g.bk).whi 1)))) := Fr.set so3 (Or.inl rfl)
  have r4 : hres (hset h3 o (jO 0 (x0O p (((g.wxi g.x).wib g.bk).whi 1)))) = hres h3 := by refine hres_setS so3 ?_; rfl
  show J M (hset h3 o (jO 0 (x0O p (((g.wxi g.x).wib g.bk).whi 1)))) _ _ _
  generalize hset h3 o (jO 0 (x0O p (((g.wxi g.x).wib g.bk).whi 1))) = h4 at so4 d6 d7 f4 r4
  have ff := (f2.tr f3).tr f4
  have S5 := S4.fr ff (fun x a b => by omega) (by omega)
  have S6 := S3.fr ff (fun x a b => by omega) (by omega)
  have gff : Fr gI h1 h4 := ff.mono (fun z hz => by show gI z; unfold gI; omega)
  have kk : ∀ b k, IsKey h1 b k → IsKey h4 b k := fun b k z => z.fr ff (by omega)
  have B2 : GB K h4 63 p.ibk p.ibw g.bk := GB.copy (h := h1) (t := 61) (a := p.bk) (w := p.bw) (bk' := g.ib) (fun i q hq => (by obtain ⟨z1, z2, b, z3, z4⟩ := k1 i q hq; exact ⟨z1, z2, b, z3, kk _ _ z4⟩)) (fun i b hb => (by obtain ⟨k, z⟩ := k2 i b hb; exact ⟨k, kk _ _ z⟩)) k3 (fun i b hb => (by obtain ⟨k, z⟩ := k2' i b hb; exact ⟨k, kk _ _ z⟩)) d6 d7
  have X2 := S.im (g1.tr gff) (((g.wxi g.x).wib g.bk).whi 1) rfl rfl rfl so4 ⟨ta, D, S5⟩ ⟨ta1, D1, S6⟩ (B1.fr ff (by omega) (by omega) (by omega)) B2 hB hB (Nat.le_refl 1)
  refine J.aload0 X dX0_image_54 ?_
  refine J.getf X dX0_image_55 fl_X0_18_X0 (so4.1) rfl ?_
  refine J.callSi X dX0_image_58 lk_X0_348 ce_X0_things (x_things F S5) (by decide) rfl (fun r0 h5 e _ => ?_)
  obtain ⟨rfl, rfl⟩ := e
  refine J.zreturn X dX0_image_61 (rfl) (jRi.of ?_)
  refine ⟨rfl, ⟨tz1, X2, by omega⟩, (g1.tr gff).mono (fun z hz => ?_)⟩
  show z ≠ 5
  intro z5
  exact gI.not (by omega) hz
