/-! SegmentedCache: read -/
theorem GX.gw {K : JK} {h : JIH} {o : Nat} {p : GP} {g : GA} {tz tzi : Nat} (S : GX K h o p g tz tzi) : GW K h p g.tp := S.2.2.2.2.2.2.2.2.2.1
def gread (g : GA) (t i : Int32) (r : Int64) : Prop := (¬ ((0 : Int32) ≤ t ∧ t ≤ 5) ∧ r = tNO) ∨ ∃ j, j < 6 ∧ t = nI j ∧ ((g.tp j = none ∧ r = tNO) ∨ ∃ so n v, g.tp j = some (so, n, v) ∧ ((¬ (nI 0 ≤ i ∧ i ≤ nI n - nI 1) ∧ r = tNO) ∨ ((nI 0 ≤ i ∧ i ≤ nI n - nI 1) ∧ ∃ k, k < n ∧ i = nI k ∧ r = v k)))
theorem fits_01 {x : Int32} (h : fits .boolean (.int x) = true) : x = 0 ∨ x = 1 := by
  simpa [fits] using h
theorem x_read {K : JK} {l : Launch} {hE : JIH} {o : Nat} {p : GP} {g : GA} {tz tzi : Nat} (F : JF K) (S : GX K hE o p g tz tzi) {t i : Int32} {r : Int64} (hf : gread g t i r) :
    Ct K l yX0_read wX0_read 12 [.ref o, .int t, .int i] hE (jRl (fun r0 h' => r0 = r ∧ hE = h')) jNo := by
  have so := S.o
  obtain ⟨⟨ft, ctp, hft⟩, hw⟩ := S.gw
  refine st_X0_read (ls := [some (.ref o), some (.int t), some (.int i), none, none, none]) F rfl (body := fun M X => ?_)
  refine J.iload1 X dX0_read_0 ?_
  refine J.callSi X dX0_read_1 lk_X0_315 ce_X0_isTape (x_isTape F t) (by decide) rfl (fun r0 h2 e _ => ?_)
  obtain ⟨rfl, rfl⟩ := e
  rcases hf with ⟨q, rfl⟩ | ⟨j, hj, rfl, hf⟩
  · skip
    refine J.if_eqB (tgt := 38) X dX0_read_4 (by decide) (fun _ => ?_) (fun q9 => absurd q9 (q))
    refine J.ldc2 (v := (-9223372036854775808)) X dX0_read_38 q2069 ?_
    refine J.lreturn X dX0_read_41 (jRl.of ?_)
    exact ⟨rfl, rfl⟩
  obtain ⟨rw, ct, gv⟩ := hw j hj
  have hfj := hft j hj
  refine J.if_eqB (tgt := 38) X dX0_read_4 (by decide) (fun q9 => absurd q9 (fun z => z ⟨nI_le (a := 0) (Nat.zero_le _) (by omega), nI_le (b := 5) (by omega) (by decide)⟩)) (fun _ => ?_)
  refine J.aload0 X dX0_read_7 ?_
  refine J.getf X dX0_read_8 fl_X0_55_X0 (so.1) rfl ?_
  refine J.iload1 X dX0_read_11 ?_
  refine J.aald (t := 9) X dX0_read_12 ctp.1 rfl rfl hj ?_
  rw [hfj]
  refine J.getf X dX0_read_13 fl_X0_318_X4 (ct.1) rfl ?_
  cases rw with
  | none =>
    have hr : r = tNO := by
      rcases hf with ⟨-, e⟩ | ⟨so, n, v, e, -⟩
      · exact e
      · rw [show g.tp j = none from gv] at e; cases e
    refine J.ifnullN (a := 0) (tgt := 38) X dX0_read_16 (by decide) ?_
    refine J.ldc2 (v := (-9223372036854775808)) X dX0_read_38 q2069 ?_
    refine J.lreturn X dX0_read_41 (jRl.of ?_)
    exact ⟨hr.symm, rfl⟩
  | some a =>
    rcases hf with ⟨e, -⟩ | ⟨so', n, v, e, hf⟩
    · obtain ⟨_, _, _, e', -⟩ := gv
      rw [e] at e'; cases e'
    rw [e] at gv
    refine J.ifnullR (tgt := 38) X dX0_read_16 (by decide) ?_
    refine J.iload2 X dX0_read_19 ?_
    refine J.iconst (v := nI 0) X dX0_read_20 (by decide) ?_
    refine J.aload0 X dX0_read_21 ?_
    refine J.getf X dX0_read_22 fl_X0_55_X0 (so.1) rfl ?_
    refine J.iload1 X dX0_read_25 ?_
    refine J.aald (t := 9) X dX0_read_26 ctp.1 rfl rfl hj ?_
    rw [hfj]
    refine J.callVNi X dX0_read_27 lk_X0_366_X4 ce_X4_size (tp_size F ct.1 gv) (by decide) rfl (ct.1) rfl (fun r0 h2 e _ => ?_)
    obtain ⟨rfl, rfl⟩ := e
    refine J.iconst (v := nI 1) X dX0_read_30 (by decide) ?_
    refine J.isub X dX0_read_31 ?_
    refine J.callSi X dX0_read_32 lk_X0_5 ce_X0_in (x_in F i (nI 0) (nI n - nI 1)) (by decide) rfl (fun r0 h2 e _ => ?_)
    obtain ⟨rfl, rfl⟩ := e
    rcases hf with ⟨q, rfl⟩ | ⟨q, k, hk, rfl, rfl⟩
    · skip
      refine J.if_neB (tgt := 42) X dX0_read_35 (by decide) (fun q9 => absurd q9 (q)) (fun _ => ?_)
      refine J.ldc2 (v := (-9223372036854775808)) X dX0_read_38 q2069 ?_
      refine J.lreturn X dX0_read_41 (jRl.of ?_)
      exact ⟨rfl, rfl⟩
    refine J.if_neB (tgt := 42) X dX0_read_35 (by decide) (fun _ => ?_) (fun q9 => absurd q9 (fun z => z q))
    obtain ⟨so2, n2, v2, e0, hn, hv⟩ := gv
    cases e0
    refine J.aload0 X dX0_read_42 ?_
    refine J.getf X dX0_read_43 fl_X0_55_X0 (so.1) rfl ?_
    refine J.iload1 X dX0_read_46 ?_
    refine J.aald (t := 9) X dX0_read_47 ctp.1 rfl rfl hj ?_
    rw [hfj]
    refine J.astore3 X dX0_read_48 ?_
    refine J.aload3 X dX0_read_49 ?_
    refine J.getf X dX0_read_50 fl_X0_318_X4 (ct.1) rfl ?_
    refine J.astore5 X dX0_read_53 ?_
    refine J.aload5 X dX0_read_55 ?_
    rcases hv with ⟨-, f, ca, hv⟩ | hv
    · skip
      refine J.instAY (t := 1) (ty := .byte) X dX0_read_57 cl_X0_360 rfl ra_B ca.1 ?_
      refine J.if_eq (tgt := 76) X dX0_read_60 (by decide) (fun q9 => absurd q9 (by decide)) (fun _ => ?_)
      refine J.aload5 X dX0_read_63 ?_
      refine J.castAY (t := 1) (ty := .byte) X dX0_read_65 cl_X0_360 rfl ra_B ca.1 ?_
      refine J.astore4 X dX0_read_68 ?_
      refine J.aload4 X dX0_read_70 ?_
      refine J.iload2 X dX0_read_72 ?_
      refine J.bald X dX0_read_73 ca.1 rfl hk ?_
      refine J.i2l X dX0_read_74 ?_
      refine J.lreturn X dX0_read_75 (jRl.of ?_)
      exact ⟨(hv k hk).1.symm, rfl⟩
    rcases hv with ⟨-, f, ca, hv⟩ | hv
    · skip
      refine J.instAN (t := 2) (ty := .short) X dX0_read_57 cl_X0_360 rfl ra_S (nc_SB F) ca.1 ?_
      refine J.if_eq (tgt := 76) X dX0_read_60 (by decide) (fun _ => ?_) (fun q9 => absurd q9 (fun z => z rfl))
      refine J.aload3 X dX0_read_76 ?_
      refine J.getf X dX0_read_77 fl_X0_318_X4 (ct.1) rfl ?_
      refine J.astore5 X dX0_read_80 ?_
      refine J.aload5 X dX0_read_82 ?_
      refine J.instAY (t := 2) (ty := .short) X dX0_read_84 cl_X0_322 rfl ra_S ca.1 ?_
      refine J.if_eq (tgt := 103) X dX0_read_87 (by decide) (fun q9 => absurd q9 (by decide)) (fun _ => ?_)
      refine J.aload5 X dX0_read_90 ?_
      refine J.castAY (t := 2) (ty := .short) X dX0_read_92 cl_X0_322 rfl ra_S ca.1 ?_
      refine J.astore4 X dX0_read_95 ?_
      refine J.aload4 X dX0_read_97 ?_
      refine J.iload2 X dX0_read_99 ?_
      refine J.sald X dX0_read_100 ca.1 rfl hk ?_
      refine J.i2l X dX0_read_101 ?_
      refine J.lreturn X dX0_read_102 (jRl.of ?_)
      exact ⟨(hv k hk).1.symm, rfl⟩
    rcases hv with ⟨-, f, ca, hv⟩ | hv
    · skip
      refine J.instAN (t := 0) (ty := .int) X dX0_read_57 cl_X0_360 rfl ra_I (nc_IB F) ca.1 ?_
      refine J.if_eq (tgt := 76) X dX0_read_60 (by decide) (fun _ => ?_) (fun q9 => absurd q9 (fun z => z rfl))
      refine J.aload3 X dX0_read_76 ?_
      refine J.getf X dX0_read_77 fl_X0_318_X4 (ct.1) rfl ?_
      refine J.astore5 X dX0_read_80 ?_
      refine J.aload5 X dX0_read_82 ?_
      refine J.instAN (t := 0) (ty := .int) X dX0_read_84 cl_X0_322 rfl ra_I (nc_IS F) ca.1 ?_
      refine J.if_eq (tgt := 103) X dX0_read_87 (by decide) (fun _ => ?_) (fun q9 => absurd q9 (fun z => z rfl))
      refine J.aload3 X dX0_read_103 ?_
      refine J.getf X dX0_read_104 fl_X0_318_X4 (ct.1) rfl ?_
      refine J.astore5 X dX0_read_107 ?_
      refine J.aload5 X dX0_read_109 ?_
      refine J.instAY (t := 0) (ty := .int) X dX0_read_111 cl_X0_361 rfl ra_I ca.1 ?_
      refine J.if_eq (tgt := 130) X dX0_read_114 (by decide) (fun q9 => absurd q9 (by decide)) (fun _ => ?_)
      refine J.aload5 X dX0_read_117 ?_
      refine J.castAY (t := 0) (ty := .int) X dX0_read_119 cl_X0_361 rfl ra_I ca.1 ?_
      refine J.astore4 X dX0_read_122 ?_
      refine J.aload4 X dX0_read_124 ?_
      refine J.iload2 X dX0_read_126 ?_
      refine J.iald X dX0_read_127 ca.1 rfl hk ?_
      refine J.i2l X dX0_read_128 ?_
      refine J.lreturn X dX0_read_129 (jRl.of ?_)
      exact ⟨(hv k hk).symm, rfl⟩
    rcases hv with ⟨-, f, ca, hv⟩ | ⟨-, f, ca, hv⟩
    · skip
      refine J.instAN (t := 3) (ty := .long) X dX0_read_57 cl_X0_360 rfl ra_J (nc_JB F) ca.1 ?_
      refine J.if_eq (tgt := 76) X dX0_read_60 (by decide) (fun _ => ?_) (fun q9 => absurd q9 (fun z => z rfl))
      refine J.aload3 X dX0_read_76 ?_
      refine J.getf X dX0_read_77 fl_X0_318_X4 (ct.1) rfl ?_
      refine J.astore5 X dX0_read_80 ?_
      refine J.aload5 X dX0_read_82 ?_
      refine J.instAN (t := 3) (ty := .long) X dX0_read_84 cl_X0_322 rfl ra_J (nc_JS F) ca.1 ?_
      refine J.if_eq (tgt := 103) X dX0_read_87 (by decide) (fun _ => ?_) (fun q9 => absurd q9 (fun z => z rfl))
      refine J.aload3 X dX0_read_103 ?_
      refine J.getf X dX0_read_104 fl_X0_318_X4 (ct.1) rfl ?_
      refine J.astore5 X dX0_read_107 ?_
      refine J.aload5 X dX0_read_109 ?_
      refine J.instAN (t := 3) (ty := .long) X dX0_read_111 cl_X0_361 rfl ra_J (nc_JI F) ca.1 ?_
      refine J.if_eq (tgt := 130) X dX0_read_114 (by decide) (fun _ => ?_) (fun q9 => absurd q9 (fun z => z rfl))
      refine J.aload3 X dX0_read_130 ?_
      refine J.getf X dX0_read_131 fl_X0_318_X4 (ct.1) rfl ?_
      refine J.astore5 X dX0_read_134 ?_
      refine J.aload5 X dX0_read_136 ?_
      refine J.instAY (t := 3) (ty := .long) X dX0_read_138 cl_X0_362 rfl ra_J ca.1 ?_
      refine J.if_eq (tgt := 158) X dX0_read_141 (by decide) (fun q9 => absurd q9 (by decide)) (fun _ => ?_)
      refine J.aload5 X dX0_read_144 ?_
      refine J.castAY (t := 3) (ty := .long) X dX0_read_146 cl_X0_362 rfl ra_J ca.1 ?_
      refine J.astore4 X dX0_read_149 ?_
      refine J.aload4 X dX0_read_151 ?_
      refine J.iload2 X dX0_read_153 ?_
      refine J.lald X dX0_read_154 ca.1 rfl hk ?_
      refine J.goto (tgt := 175) X dX0_read_155 (by decide) ?_
      refine J.lreturn X dX0_read_175 (jRl.of ?_)
      exact ⟨(hv k hk).symm, rfl⟩
    · refine J.instAN (t := 4) (ty := .boolean) X dX0_read_57 cl_X0_360 rfl ra_Z (nc_ZB F) ca.1 ?_
      refine J.if_eq (tgt := 76) X dX0_read_60 (by decide) (fun _ => ?_) (fun q9 => absurd q9 (fun z => z rfl))
      refine J.aload3 X dX0_read_76 ?_
      refine J.getf X dX0_read_77 fl_X0_318_X4 (ct.1) rfl ?_
      refine J.astore5 X dX0_read_80 ?_
      refine J.aload5 X dX0_read_82 ?_
      refine J.instAN (t := 4) (ty := .boolean) X dX0_read_84 cl_X0_322 rfl ra_Z (nc_ZS F) ca.1 ?_
      refine J.if_eq (tgt := 103) X dX0_read_87 (by decide) (fun _ => ?_) (fun q9 => absurd q9 (fun z => z rfl))
      refine J.aload3 X dX0_read_103 ?_
      refine J.getf X dX0_read_104 fl_X0_318_X4 (ct.1) rfl ?_
      refine J.astore5 X dX0_read_107 ?_
      refine J.aload5 X dX0_read_109 ?_
      refine J.instAN (t := 4) (ty := .boolean) X dX0_read_111 cl_X0_361 rfl ra_Z (nc_ZI F) ca.1 ?_
      refine J.if_eq (tgt := 130) X dX0_read_114 (by decide) (fun _ => ?_) (fun q9 => absurd q9 (fun z => z rfl))
      refine J.aload3 X dX0_read_130 ?_
      refine J.getf X dX0_read_131 fl_X0_318_X4 (ct.1) rfl ?_
      refine J.astore5 X dX0_read_134 ?_
      refine J.aload5 X dX0_read_136 ?_
      refine J.instAN (t := 4) (ty := .boolean) X dX0_read_138 cl_X0_362 rfl ra_Z (nc_ZJ F) ca.1 ?_
      refine J.if_eq (tgt := 158) X dX0_read_141 (by decide) (fun _ => ?_) (fun q9 => absurd q9 (fun z => z rfl))
      refine J.aload3 X dX0_read_158 ?_
      refine J.getf X dX0_read_159 fl_X0_318_X4 (ct.1) rfl ?_
      refine J.castAY (t := 4) (ty := .boolean) X dX0_read_162 cl_X0_364 rfl ra_Z ca.1 ?_
      refine J.iload2 X dX0_read_165 ?_
      refine J.zald X dX0_read_166 ca.1 rfl hk ?_
      have h01 : f k = 0 ∨ f k = 1 := fits_01 (hv k hk).2
      have e9 := (hv k hk).1
      refine J.if_eq (tgt := 174) X dX0_read_167 (by decide) (fun c1 => ?_) (fun c1 => ?_)
      · skip
        refine J.lconst (v := 0) X dX0_read_174 (by decide) ?_
        refine J.lreturn X dX0_read_175 (jRl.of ?_)
        exact ⟨by rw [e9, show f k = 0 from c1]; rfl, rfl⟩
      · skip
        refine J.lconst (v := 1) X dX0_read_170 (by decide) ?_
        refine J.goto (tgt := 175) X dX0_read_171 (by decide) ?_
        refine J.lreturn X dX0_read_175 (jRl.of ?_)
        exact ⟨by rw [e9, show f k = 1 from h01.resolve_left c1]; rfl, rfl⟩
