/-! SegmentedCache: tapes -/
theorem x_isTape {K : JK} {l : Launch} {h : JIH} (F : JF K) (t : Int32) : Ct K l yX0_isTape wX0_isTape 1 [.int t] h (jRi (fun r h' => r = jB ((0 : Int32) ≤ t ∧ t ≤ 5) ∧ h = h')) jNo := by
  refine st_X0_isTape (ls := [some (.int t)]) F rfl (body := fun M X => ?_)
  refine J.iload0 X dX0_isTape_0 ?_
  refine J.iconst (v := nI 0) X dX0_isTape_1 (by decide) ?_
  refine J.iconst (v := nI 5) X dX0_isTape_2 (by decide) ?_
  refine J.callSi X dX0_isTape_3 lk_X0_5 ce_X0_in (x_in F t 0 5) (by decide) rfl (fun r h' e _ => ?_)
  obtain ⟨rfl, rfl⟩ := e
  refine J.zreturn X dX0_isTape_6 (jB_n) (jRi.of ?_)
  exact ⟨rfl, rfl⟩
theorem tp_size {K : JK} {l : Launch} {hE : JIH} (F : JF K) {q a so n tg : Nat} {v : Nat → Int64} (ct : hget hE q = some (jO 4 [.ref a])) (hv : GV K hE tg (some a) (some (so, n, v))) :
    Ct K l yX4_size wX4_size 0 [.ref q] hE (jRi (fun r h' => r = nI n ∧ hE = h')) jNo := by
  obtain ⟨so', n', v', e0, hn, hv⟩ := hv
  cases e0
  refine st_X4_size (ls := [some (.ref q), none, none]) F rfl (body := fun M X => ?_)
  refine J.aload0 X dX4_size_0 ?_
  refine J.getf X dX4_size_1 fl_X4_9_X4 (ct) rfl ?_
  refine J.astore2 X dX4_size_4 ?_
  refine J.aload2 X dX4_size_5 ?_
  rcases hv with ⟨-, f, ca, -⟩ | hv
  · skip
    refine J.instAY (t := 1) (ty := .byte) X dX4_size_6 cl_X4_15 rfl ra_B ca.1 ?_
    refine J.if_eq (tgt := 20) X dX4_size_9 (by decide) (fun q9 => absurd q9 (by decide)) (fun _ => ?_)
    refine J.aload2 X dX4_size_12 ?_
    refine J.castAY (t := 1) (ty := .byte) X dX4_size_13 cl_X4_15 rfl ra_B ca.1 ?_
    refine J.astore1 X dX4_size_16 ?_
    refine J.aload1 X dX4_size_17 ?_
    refine J.alen (t := 1) X dX4_size_18 ca.1 rfl rfl ?_
    refine J.zreturn X dX4_size_19 (rfl) (jRi.of ?_)
    exact ⟨rfl, rfl⟩
  rcases hv with ⟨-, f, ca, -⟩ | hv
  · skip
    refine J.instAN (t := 2) (ty := .short) X dX4_size_6 cl_X4_15 rfl ra_S (nc_SB F) ca.1 ?_
    refine J.if_eq (tgt := 20) X dX4_size_9 (by decide) (fun _ => ?_) (fun q9 => absurd q9 (fun z => z rfl))
    refine J.aload0 X dX4_size_20 ?_
    refine J.getf X dX4_size_21 fl_X4_9_X4 (ct) rfl ?_
    refine J.astore2 X dX4_size_24 ?_
    refine J.aload2 X dX4_size_25 ?_
    refine J.instAY (t := 2) (ty := .short) X dX4_size_26 cl_X4_17 rfl ra_S ca.1 ?_
    refine J.if_eq (tgt := 40) X dX4_size_29 (by decide) (fun q9 => absurd q9 (by decide)) (fun _ => ?_)
    refine J.aload2 X dX4_size_32 ?_
    refine J.castAY (t := 2) (ty := .short) X dX4_size_33 cl_X4_17 rfl ra_S ca.1 ?_
    refine J.astore1 X dX4_size_36 ?_
    refine J.aload1 X dX4_size_37 ?_
    refine J.alen (t := 2) X dX4_size_38 ca.1 rfl rfl ?_
    refine J.zreturn X dX4_size_39 (rfl) (jRi.of ?_)
    exact ⟨rfl, rfl⟩
  rcases hv with ⟨-, f, ca, -⟩ | hv
  · skip
    refine J.instAN (t := 0) (ty := .int) X dX4_size_6 cl_X4_15 rfl ra_I (nc_IB F) ca.1 ?_
    refine J.if_eq (tgt := 20) X dX4_size_9 (by decide) (fun _ => ?_) (fun q9 => absurd q9 (fun z => z rfl))
    refine J.aload0 X dX4_size_20 ?_
    refine J.getf X dX4_size_21 fl_X4_9_X4 (ct) rfl ?_
    refine J.astore2 X dX4_size_24 ?_
    refine J.aload2 X dX4_size_25 ?_
    refine J.instAN (t := 0) (ty := .int) X dX4_size_26 cl_X4_17 rfl ra_I (nc_IS F) ca.1 ?_
    refine J.if_eq (tgt := 40) X dX4_size_29 (by decide) (fun _ => ?_) (fun q9 => absurd q9 (fun z => z rfl))
    refine J.aload0 X dX4_size_40 ?_
    refine J.getf X dX4_size_41 fl_X4_9_X4 (ct) rfl ?_
    refine J.astore2 X dX4_size_44 ?_
    refine J.aload2 X dX4_size_45 ?_
    refine J.instAY (t := 0) (ty := .int) X dX4_size_46 cl_X4_19 rfl ra_I ca.1 ?_
    refine J.if_eq (tgt := 60) X dX4_size_49 (by decide) (fun q9 => absurd q9 (by decide)) (fun _ => ?_)
    refine J.aload2 X dX4_size_52 ?_
    refine J.castAY (t := 0) (ty := .int) X dX4_size_53 cl_X4_19 rfl ra_I ca.1 ?_
    refine J.astore1 X dX4_size_56 ?_
    refine J.aload1 X dX4_size_57 ?_
    refine J.alen (t := 0) X dX4_size_58 ca.1 rfl rfl ?_
    refine J.zreturn X dX4_size_59 (rfl) (jRi.of ?_)
    exact ⟨rfl, rfl⟩
  rcases hv with ⟨-, f, ca, -⟩ | ⟨-, f, ca, -⟩
  · skip
    refine J.instAN (t := 3) (ty := .long) X dX4_size_6 cl_X4_15 rfl ra_J (nc_JB F) ca.1 ?_
    refine J.if_eq (tgt := 20) X dX4_size_9 (by decide) (fun _ => ?_) (fun q9 => absurd q9 (fun z => z rfl))
    refine J.aload0 X dX4_size_20 ?_
    refine J.getf X dX4_size_21 fl_X4_9_X4 (ct) rfl ?_
    refine J.astore2 X dX4_size_24 ?_
    refine J.aload2 X dX4_size_25 ?_
    refine J.instAN (t := 3) (ty := .long) X dX4_size_26 cl_X4_17 rfl ra_J (nc_JS F) ca.1 ?_
    refine J.if_eq (tgt := 40) X dX4_size_29 (by decide) (fun _ => ?_) (fun q9 => absurd q9 (fun z => z rfl))
    refine J.aload0 X dX4_size_40 ?_
    refine J.getf X dX4_size_41 fl_X4_9_X4 (ct) rfl ?_
    refine J.astore2 X dX4_size_44 ?_
    refine J.aload2 X dX4_size_45 ?_
    refine J.instAN (t := 3) (ty := .long) X dX4_size_46 cl_X4_19 rfl ra_J (nc_JI F) ca.1 ?_
    refine J.if_eq (tgt := 60) X dX4_size_49 (by decide) (fun _ => ?_) (fun q9 => absurd q9 (fun z => z rfl))
    refine J.aload0 X dX4_size_60 ?_
    refine J.getf X dX4_size_61 fl_X4_9_X4 (ct) rfl ?_
    refine J.astore2 X dX4_size_64 ?_
    refine J.aload2 X dX4_size_65 ?_
    refine J.instAY (t := 3) (ty := .long) X dX4_size_66 cl_X4_21 rfl ra_J ca.1 ?_
    refine J.if_eq (tgt := 82) X dX4_size_69 (by decide) (fun q9 => absurd q9 (by decide)) (fun _ => ?_)
    refine J.aload2 X dX4_size_72 ?_
    refine J.castAY (t := 3) (ty := .long) X dX4_size_73 cl_X4_21 rfl ra_J ca.1 ?_
    refine J.astore1 X dX4_size_76 ?_
    refine J.aload1 X dX4_size_77 ?_
    refine J.alen (t := 3) X dX4_size_78 ca.1 rfl rfl ?_
    refine J.goto (tgt := 90) X dX4_size_79 (by decide) ?_
    refine J.zreturn X dX4_size_90 (rfl) (jRi.of ?_)
    exact ⟨rfl, rfl⟩
  · refine J.instAN (t := 4) (ty := .boolean) X dX4_size_6 cl_X4_15 rfl ra_Z (nc_ZB F) ca.1 ?_
    refine J.if_eq (tgt := 20) X dX4_size_9 (by decide) (fun _ => ?_) (fun q9 => absurd q9 (fun z => z rfl))
    refine J.aload0 X dX4_size_20 ?_
    refine J.getf X dX4_size_21 fl_X4_9_X4 (ct) rfl ?_
    refine J.astore2 X dX4_size_24 ?_
    refine J.aload2 X dX4_size_25 ?_
    refine J.instAN (t := 4) (ty := .boolean) X dX4_size_26 cl_X4_17 rfl ra_Z (nc_ZS F) ca.1 ?_
    refine J.if_eq (tgt := 40) X dX4_size_29 (by decide) (fun _ => ?_) (fun q9 => absurd q9 (fun z => z rfl))
    refine J.aload0 X dX4_size_40 ?_
    refine J.getf X dX4_size_41 fl_X4_9_X4 (ct) rfl ?_
    refine J.astore2 X dX4_size_44 ?_
    refine J.aload2 X dX4_size_45 ?_
    refine J.instAN (t := 4) (ty := .boolean) X dX4_size_46 cl_X4_19 rfl ra_Z (nc_ZI F) ca.1 ?_
    refine J.if_eq (tgt := 60) X dX4_size_49 (by decide) (fun _ => ?_) (fun q9 => absurd q9 (fun z => z rfl))
    refine J.aload0 X dX4_size_60 ?_
    refine J.getf X dX4_size_61 fl_X4_9_X4 (ct) rfl ?_
    refine J.astore2 X dX4_size_64 ?_
    refine J.aload2 X dX4_size_65 ?_
    refine J.instAN (t := 4) (ty := .boolean) X dX4_size_66 cl_X4_21 rfl ra_Z (nc_ZJ F) ca.1 ?_
    refine J.if_eq (tgt := 82) X dX4_size_69 (by decide) (fun _ => ?_) (fun q9 => absurd q9 (fun z => z rfl))
    refine J.aload0 X dX4_size_82 ?_
    refine J.getf X dX4_size_83 fl_X4_9_X4 (ct) rfl ?_
    refine J.castAY (t := 4) (ty := .boolean) X dX4_size_86 cl_X4_23 rfl ra_Z ca.1 ?_
    refine J.alen (t := 4) X dX4_size_89 ca.1 rfl rfl ?_
    refine J.zreturn X dX4_size_90 (rfl) (jRi.of ?_)
    exact ⟨rfl, rfl⟩
