/-! SegmentedCache: undo -/
def gundo (g : GA) (r : Int32) (g' : GA) : Prop := (g.hi = 0 ∧ r = -3 ∧ g' = g) ∨ (g.hi = 1 ∧ r = nI ((g.xi.1.1 1).length + (g.xi.1.1 2).length) ∧ g' = (g.wx g.xi).wbk g.ib)
theorem x_undo {K : JK} {l : Launch} {hE : JIH} {o : Nat} {p : GP} {g : GA} {tz tzi : Nat} (F : JF K) (S : GX K hE o p g tz tzi) {r : Int32} {g' : GA} (hf : gundo g r g') (rm : RM hE tz (28 * sl g.xi.1.1 4 + 3000)) :
    Ct K l yX0_undo wX0_undo 12 [.ref o] hE (jRi (fun r0 h' => r0 = r ∧ (∃ tz', GX K h' o p g' tz' tzi ∧ hres h' + tz ≤ hres hE + (28 * sl g.xi.1.1 4 + 1100) + tz') ∧ Fr n5 hE h')) jNo := by
  have so := S.o
  obtain ⟨ta, D, S1⟩ := S.cc
  obtain ⟨ta2, D2, S2⟩ := S.2.2.1
  have hB : BC g.xi.2.1 := S.2.2.2.2.2.2.2.2.2.2.2.1
  refine st_X0_undo (ls := [some (.ref o)]) F rfl (body := fun M X => ?_)
  refine J.aload0 X dX0_undo_0 ?_
  refine J.getf X dX0_undo_1 fl_X0_345_X0 (so.1) rfl ?_
  rcases hf with ⟨h0, rfl, rfl⟩ | ⟨h0, rfl, rfl⟩
  · skip
    refine J.if_neN (tgt := 10) X dX0_undo_4 (by decide) (by omega) (fun q9 => absurd q9 (fun z => z h0)) (fun _ => ?_)
    refine J.bipush (v := -3) X dX0_undo_7 (by decide) ?_
    refine J.zreturn X dX0_undo_9 (rfl) (jRi.of ?_)
    exact ⟨rfl, ⟨tz, S, by omega⟩, Fr.rf _ _⟩
  refine J.if_neN (tgt := 10) X dX0_undo_4 (by decide) (by omega) (fun _ => ?_) (fun q9 => absurd q9 (show g.hi ≠ 0 by omega))
  refine J.aload0 X dX0_undo_10 ?_
  refine J.getf X dX0_undo_11 fl_X0_18_X0 (so.1) rfl ?_
  refine J.aload0 X dX0_undo_14 ?_
  refine J.getf X dX0_undo_15 fl_X0_60_X0 (so.1) rfl ?_
  refine J.callVv X dX0_undo_18 lk_X0_333_X1 ce_X1_takes (k_takes F (Or.inl ⟨rfl, rfl⟩) S1 S2 rm) (by decide) rfl (S1.o.1) rfl (fun h1 e _ => ?_)
  obtain ⟨ta1, D1, tz1, S3, S4, f1, e1⟩ := e
  have g1 : Fr gI hE h1 := f1.mono (fun z hz => by rcases hz with q | q | q; exact Or.inl q; exact Or.inr (Or.inl q); exact Or.inr (Or.inr (Or.inl q)))
  have nf1 : ∀ z, z = 1 ∨ z = 8 ∨ (61 ≤ z ∧ z ≤ 64) → ¬ (CT 16 z ∨ CT 32 z ∨ z = 7) := fun z hz q => by unfold CT at q; omega
  have so1 := so.fr f1 (nf1 _ (by omega))
  have b2 := S.gb.fr f1 (nf1 _ (by omega)) (nf1 _ (by omega)) (nf1 _ (by omega))
  have b1 := (show GB K hE 63 p.ibk p.ibw g.ib from S.2.2.2.2.2.2.2.2.1).fr f1 (nf1 _ (by omega)) (nf1 _ (by omega)) (nf1 _ (by omega))
  have B1 := b1
  obtain ⟨f, v, c1, c2, k1, k2, k3⟩ := b1
  obtain ⟨f', v', c1', c2', k1', k2', k3'⟩ := b2
  have n1 : p.bk ≠ o := c1'.apT so1 (by decide)
  have n2 : p.bw ≠ o := c2'.apT so1 (by decide)
  refine J.aload0 X dX0_undo_21 ?_
  refine J.getf X dX0_undo_22 fl_X0_63_X0 (so1.1) rfl ?_
  refine J.iconst (v := nI 0) X dX0_undo_25 (by decide) ?_
  refine J.aload0 X dX0_undo_26 ?_
  refine J.getf X dX0_undo_27 fl_X0_45_X0 (so1.1) rfl ?_
  refine J.iconst (v := nI 0) X dX0_undo_30 (by decide) ?_
  refine J.bipush (v := nI 8) X dX0_undo_31 (by decide) ?_
  refine J.copyQ (t0 := 7) (t1 := 7) (n := 8) (sp := 0) (dp := 0) X dX0_undo_33 q2643 c1.1 c1'.1 rfl rfl jcl_8 (Or.inl rfl) (fun i _ y hy => (by obtain ⟨k, z⟩ := k2 (0 + i) y hy; exact ⟨_, z.2.1⟩)) (by decide) (by decide) (by decide) (by decide) (by decide) ?_
  have d1 := c1'.same (jAR K 7 8 (va_cpy f f' 0 0 8))
  have d2 := c2'.ne (jAR K 7 8 (va_cpy f f' 0 0 8)) (c1'.apT c2' (by decide))
  have d3 := c2.ne (jAR K 7 8 (va_cpy f f' 0 0 8)) (c1'.apT c2 (by decide))
  have so2 := so1.ne (jAR K 7 8 (va_cpy f f' 0 0 8)) n1
  have f2 : Fr (fun z => z = 8 ∨ z = 61 ∨ z = 62) h1 (hset h1 p.bk (jAR K 7 8 (va_cpy f f' 0 0 8))) := Fr.set c1' (Or.inr (Or.inl rfl))
  have r2 : hres (hset h1 p.bk (jAR K 7 8 (va_cpy f f' 0 0 8))) = hres h1 := by refine hres_setS c1' ?_; rfl
  generalize hset h1 p.bk (jAR K 7 8 (va_cpy f f' 0 0 8)) = h2 at d1 d2 d3 so2 f2 r2
  refine J.aload0 X dX0_undo_36 ?_
  refine J.getf X dX0_undo_37 fl_X0_66_X0 (so2.1) rfl ?_
  refine J.iconst (v := nI 0) X dX0_undo_40 (by decide) ?_
  refine J.aload0 X dX0_undo_41 ?_
  refine J.getf X dX0_undo_42 fl_X0_49_X0 (so2.1) rfl ?_
  refine J.iconst (v := nI 0) X dX0_undo_45 (by decide) ?_
  refine J.bipush (v := nI 8) X dX0_undo_46 (by decide) ?_
  refine J.copyI (t := 0) (ty := .int) (n := 8) (sp := 0) (dp := 0) X dX0_undo_48 q2643 d3.1 d2.1 rfl rfl (fun _ _ => rfl) (by decide) (by decide) (by decide) (by decide) (by decide) ?_
  have d4 := d1.ne (jA K 0 8 (va_cpy v v' 0 0 8)) (d2.apT d1 (by decide))
  have d5 := d2.same (jA K 0 8 (va_cpy v v' 0 0 8))
  have so3 := so2.ne (jA K 0 8 (va_cpy v v' 0 0 8)) n2
  have f3 : Fr (fun z => z = 8 ∨ z = 61 ∨ z = 62) h2 (hset h2 p.bw (jA K 0 8 (va_cpy v v' 0 0 8))) := Fr.set d2 (Or.inr (Or.inr rfl))
  have r3 : hres (hset h2 p.bw (jA K 0 8 (va_cpy v v' 0 0 8))) = hres h2 := by refine hres_setS d2 ?_; rfl
  generalize hset h2 p.bw (jA K 0 8 (va_cpy v v' 0 0 8)) = h3 at d4 d5 so3 f3 r3
  have s31 := so3.1
  refine J.fresh s31 ?_
  have so31 : ∀ e, hget (hset h3 o e) o = some e := fun e => hget_set_same e s31
  refine J.aload0 X dX0_undo_51 ?_
  refine J.aload0 X dX0_undo_52 ?_
  refine J.getf X dX0_undo_53 fl_X0_342_X0 (so31 _) rfl ?_
  refine J.putfS X dX0_undo_56 (pl_X0_296_X0 _) (s31) (Nat.le_of_ble_eq_true rfl) (rfl) (rfl) ?_
  have so4 := so3.same (jO 0 (x0O p ((g.wx g.xi).wbk g.ib)))
  have d6 := d4.ne (jO 0 (x0O p ((g.wx g.xi).wbk g.ib))) n1.symm
  have d7 := d5.ne (jO 0 (x0O p ((g.wx g.xi).wbk g.ib))) n2.symm
  have f4 : Fr (fun z => z = 8 ∨ z = 61 ∨ z = 62) h3 (hset h3 o (jO 0 (x0O p ((g.wx g.xi).wbk g.ib)))) := Fr.set so3 (Or.inl rfl)
  have r4 : hres (hset h3 o (jO 0 (x0O p ((g.wx g.xi).wbk g.ib)))) = hres h3 := by refine hres_setS so3 ?_; rfl
  show J M (hset h3 o (jO 0 (x0O p ((g.wx g.xi).wbk g.ib)))) _ _ _
  generalize hset h3 o (jO 0 (x0O p ((g.wx g.xi).wbk g.ib))) = h4 at so4 d6 d7 f4 r4
  have ff := (f2.tr f3).tr f4
  have S5 := S3.fr ff (fun x a b => by omega) (by omega)
  have S6 := S4.fr ff (fun x a b => by omega) (by omega)
  have gff : Fr gI h1 h4 := ff.mono (fun z hz => by show gI z; unfold gI; omega)
  have kk : ∀ b k, IsKey h1 b k → IsKey h4 b k := fun b k z => z.fr ff (by omega)
  have B2 : GB K h4 61 p.bk p.bw g.ib := GB.copy (h := h1) (t := 63) (a := p.ibk) (w := p.ibw) (bk' := g.bk) (fun i q hq => (by obtain ⟨z1, z2, b, z3, z4⟩ := k1 i q hq; exact ⟨z1, z2, b, z3, kk _ _ z4⟩)) (fun i b hb => (by obtain ⟨k, z⟩ := k2 i b hb; exact ⟨k, kk _ _ z⟩)) k3 (fun i b hb => (by obtain ⟨k, z⟩ := k2' i b hb; exact ⟨k, kk _ _ z⟩)) d6 d7
  have X2 := S.im (g1.tr gff) ((g.wx g.xi).wbk g.ib) rfl rfl rfl so4 ⟨ta1, D1, S5⟩ ⟨ta2, D2, S6⟩ B2 (B1.fr ff (by omega) (by omega) (by omega)) hB hB (show g.hi ≤ 1 by omega)
  refine J.aload0 X dX0_undo_59 ?_
  refine J.getf X dX0_undo_60 fl_X0_18_X0 (so4.1) rfl ?_
  refine J.callSi X dX0_undo_63 lk_X0_348 ce_X0_things (x_things F S5) (by decide) rfl (fun r0 h5 e _ => ?_)
  obtain ⟨rfl, rfl⟩ := e
  refine J.zreturn X dX0_undo_66 (rfl) (jRi.of ?_)
  refine ⟨rfl, ⟨tz1, X2, by omega⟩, (g1.tr gff).mono (fun z hz => ?_)⟩
  show z ≠ 5
  intro z5
  exact gI.not (by omega) hz
