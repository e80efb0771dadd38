/-! the model: tapes -/
theorem below_nat {t : Int32} {c : Nat} (hc : c < 2147483648) (h : nI 0 ≤ t ∧ t ≤ nI c - nI 1) : ∃ j, j < c ∧ t = nI j := by
  cases c with
  | zero => exact absurd (Int32.le_trans h.1 h.2) (by decide)
  | succ c =>
    rw [pk_sub (by omega)] at h
    obtain ⟨j, hj, rfl⟩ := in_nat (m := c + 1 - 1) (by omega) (by decide) h
    exact ⟨j, by omega, rfl⟩
theorem nat_below {j c : Nat} (hc : c < 2147483648) (h : j < c) : nI 0 ≤ nI j ∧ nI j ≤ nI c - nI 1 := by
  rw [pk_sub (by omega)]
  exact ⟨nI_pos' (by omega), nI_le (by omega) (by omega)⟩
theorem tw_isTape {K : JK} {l : Launch} {hE : JIH} (F : JF K) (t : Int32) : Ct K l yX5_isTape wX5_isTape 1 [.int t] hE (jRi (fun r0 h' => r0 = jB (nI 0 ≤ t ∧ t ≤ nI 5) ∧ hE = h')) jNo := by
  refine st_X5_isTape (ls := [some (.int t)]) F rfl (body := fun M X => ?_)
  refine J.iload0 X dX5_isTape_0 ?_
  refine J.iconst (v := nI 0) X dX5_isTape_1 (by decide) ?_
  refine J.iconst (v := nI 5) X dX5_isTape_2 (by decide) ?_
  refine J.callSi X dX5_isTape_3 lk_X5_54 ce_X5_in (tw_in F t 0 5) (by decide) rfl (fun r h' e _ => ?_)
  obtain ⟨rfl, rfl⟩ := e
  refine J.zreturn X dX5_isTape_6 (jB_n) (jRi.of ?_)
  exact ⟨rfl, rfl⟩
def tfit (j : Nat) (v : Int64) : Int64 := if j = 0 then v.toInt32.toInt8.toInt32.toInt64 else if j = 1 then v.toInt32.toInt16.toInt32.toInt64 else if j = 2 then v.toInt32.toInt64 else if j = 3 then v else if v = 0 then 0 else 1
theorem tw_fit {K : JK} {l : Launch} {hE : JIH} (F : JF K) {j : Nat} (hj : j ≤ 4) (v : Int64) : Ct K l yX5_fit wX5_fit 1 [.int (nI j), .long v] hE (jRl (fun r0 h' => r0 = tfit j v ∧ hE = h')) jNo := by
  refine st_X5_fit (ls := [some (.int (nI j)), some (.long v), none]) F rfl (body := fun M X => ?_)
  refine J.iload0 X dX5_fit_0 ?_
  rcases (show j = 0 ∨ j = 1 ∨ j = 2 ∨ j = 3 ∨ j = 4 by omega) with rfl | rfl | rfl | rfl | rfl
  · skip
    refine J.tsIn (off := 31) (tgt := 32) X dX5_fit_1 (by decide) (by decide) (by decide) (by decide) ?_
    refine J.lload1 X dX5_fit_32 ?_
    refine J.l2i X dX5_fit_33 ?_
    refine J.i2b X dX5_fit_34 ?_
    refine J.i2l X dX5_fit_35 ?_
    refine J.lreturn X dX5_fit_36 (jRl.of ?_)
    exact ⟨rfl, rfl⟩
  · skip
    refine J.tsIn (off := 36) (tgt := 37) X dX5_fit_1 (by decide) (by decide) (by decide) (by decide) ?_
    refine J.lload1 X dX5_fit_37 ?_
    refine J.l2i X dX5_fit_38 ?_
    refine J.i2s X dX5_fit_39 ?_
    refine J.i2l X dX5_fit_40 ?_
    refine J.lreturn X dX5_fit_41 (jRl.of ?_)
    exact ⟨rfl, rfl⟩
  · skip
    refine J.tsIn (off := 41) (tgt := 42) X dX5_fit_1 (by decide) (by decide) (by decide) (by decide) ?_
    refine J.lload1 X dX5_fit_42 ?_
    refine J.l2i X dX5_fit_43 ?_
    refine J.i2l X dX5_fit_44 ?_
    refine J.lreturn X dX5_fit_45 (jRl.of ?_)
    exact ⟨rfl, rfl⟩
  · skip
    refine J.tsIn (off := 45) (tgt := 46) X dX5_fit_1 (by decide) (by decide) (by decide) (by decide) ?_
    refine J.lload1 X dX5_fit_46 ?_
    refine J.lreturn X dX5_fit_47 (jRl.of ?_)
    exact ⟨rfl, rfl⟩
  · skip
    refine J.tsOut (tgt := 48) X dX5_fit_1 (by decide) (by decide) ?_
    refine J.lload1 X dX5_fit_48 ?_
    refine J.lconst (v := 0) X dX5_fit_49 (by decide) ?_
    refine J.lcmp X dX5_fit_50 ?_
    refine J.if_eq (tgt := 58) X dX5_fit_51 (by decide) (fun c1 => ?_) (fun c1 => ?_)
    · skip
      refine J.lconst (v := 0) X dX5_fit_58 (by decide) ?_
      refine J.lreturn X dX5_fit_59 (jRl.of ?_)
      exact ⟨(if_pos (lg_cmp_0.mp c1)).symm, rfl⟩
    · skip
      refine J.lconst (v := 1) X dX5_fit_54 (by decide) ?_
      refine J.goto (tgt := 59) X dX5_fit_55 (by decide) ?_
      refine J.lreturn X dX5_fit_59 (jRl.of ?_)
      exact ⟨(if_neg (fun z => c1 (lg_cmp_0.mpr z))).symm, rfl⟩
def titemAR (ts tz : Nat → Int32) (t i : Int32) (r : Int32) : Prop := (¬ (nI 0 ≤ t ∧ t ≤ nI 5) ∧ r = -1) ∨ ∃ a, a ≤ 5 ∧ t = nI a ∧ ((ts a < 0 ∧ r = -11) ∨ (¬ ts a < 0 ∧ ∃ z, z ≤ 60 ∧ tz a = nI z ∧ ¬ (nI 0 ≤ i ∧ i ≤ nI z - nI 1) ∧ r = -13))
theorem tw_item0 {K : JK} {l : Launch} {hE : JIH} {A : Nat} {g sv kp go tx ac ky wt mn ts tz : Nat → Int32} {tp : Nat → Nat → Int64} {mv : Nat → Int64} {i0 i1 i2 i3 i4 i5 : Int32} (F : JF K) (T : TwR K hE A g sv kp go tx ac ky wt mn ts tz tp mv i0 i1 i2 i3 i4 i5) {t i r : Int32} (v : Int64) (hf : titemAR ts tz t i r) :
    Ct K l yX5_item wX5_item 5 [.ref A, .int t, .int i, .long v] hE (jRi (fun r0 h' => r0 = r ∧ hE = h')) jNo := by
  refine st_X5_item (ls := [some (.ref A), some (.int t), some (.int i), some (.long v), none]) F rfl (body := fun M X => ?_)
  have S := T.S
  refine J.iload1 X dX5_item_0 ?_
  refine J.callSi X dX5_item_1 lk_X5_161 ce_X5_isTape (tw_isTape F t) (by decide) rfl (fun r h' e _ => ?_)
  obtain ⟨rfl, rfl⟩ := e
  refine J.if_neB (tgt := 9) X dX5_item_4 (by decide) (fun c1 => ?_) (fun c1 => ?_)
  · skip
    rcases hf with ⟨e, -⟩ | ⟨a, ha, rfl, hf⟩
    · exact absurd c1 e
    refine J.aload0 X dX5_item_9 ?_
    refine J.getf X dX5_item_10 fl_X5_39_X5 (S.o) rfl ?_
    refine J.iload1 X dX5_item_13 ?_
    refine J.iald X dX5_item_14 (S.r_ts) (rfl) (by omega) ?_
    refine J.if_ge (tgt := 21) X dX5_item_15 (by decide) (fun c2 => ?_) (fun c2 => ?_)
    · skip
      rcases hf with ⟨e, -⟩ | ⟨-, z, hz, hzz, e, rfl⟩
      · exact absurd e (Int32.not_lt.mpr c2)
      refine J.iload2 X dX5_item_21 ?_
      refine J.iconst (v := nI 0) X dX5_item_22 (by decide) ?_
      refine J.aload0 X dX5_item_23 ?_
      refine J.getf X dX5_item_24 fl_X5_42_X5 (S.o) rfl ?_
      refine J.iload1 X dX5_item_27 ?_
      refine J.iald X dX5_item_28 (S.r_tz) (rfl) (by omega) ?_
      refine J.topi (y := nI (z)) (hzz) ?_
      refine J.iconst (v := nI 1) X dX5_item_29 (by decide) ?_
      refine J.isub X dX5_item_30 ?_
      refine J.callSi X dX5_item_31 lk_X5_54 ce_X5_in (tw_in F i 0 (nI z - nI 1)) (by decide) rfl (fun r h' e _ => ?_)
      obtain ⟨rfl, rfl⟩ := e
      refine J.if_neB (tgt := 40) X dX5_item_34 (by decide) (fun q9 => absurd q9 (e)) (fun _ => ?_)
      refine J.bipush (v := -13) X dX5_item_37 (by decide) ?_
      refine J.zreturn X dX5_item_39 (rfl) (jRi.of ?_)
      exact ⟨rfl, rfl⟩
    · skip
      rcases hf with ⟨-, rfl⟩ | ⟨e, -⟩
      · refine J.bipush (v := -11) X dX5_item_18 (by decide) ?_
        refine J.zreturn X dX5_item_20 (rfl) (jRi.of ?_)
        exact ⟨rfl, rfl⟩
      · exact absurd (Int32.not_lt.mp e) c2
  · skip
    refine J.iconst (v := -1) X dX5_item_7 (by decide) ?_
    refine J.zreturn X dX5_item_8 (rfl) (jRi.of ?_)
    rcases hf with ⟨-, e⟩ | ⟨a, ha, rfl, -⟩
    · exact ⟨e.symm, rfl⟩
    · exact absurd (nat_in (by decide) ha) c1
theorem tw_item {K : JK} {l : Launch} {hE : JIH} {A : Nat} {g sv kp go tx ac ky wt mn ts tz : Nat → Int32} {tp : Nat → Nat → Int64} {mv : Nat → Int64} {i0 i1 i2 i3 i4 i5 : Int32} (F : JF K) (T : TwR K hE A g sv kp go tx ac ky wt mn ts tz tp mv i0 i1 i2 i3 i4 i5) {a i j z : Nat} (ha : a ≤ 5) (hz : z ≤ 60) (hi : i < z) (hj : j ≤ 4) (hs : ts a = nI j) (hzz : tz a = nI z) (v : Int64) :
    Ct K l yX5_item wX5_item 5 [.ref A, .int (nI a), .int (nI i), .long v] hE (jRi (fun r0 h' => r0 = nI 1 ∧ TwS K hE h' A g sv kp go tx ac ky wt mn ts tz (va_up tp a (vp_updL (tp a) i (tfit j v))) mv i0 i1 i2 i3 i4 i5)) jNo := by
  refine st_X5_item (ls := [some (.ref A), some (.int (nI a)), some (.int (nI i)), some (.long v), none]) F rfl (body := fun M X => ?_)
  have S := T.S
  refine J.iload1 X dX5_item_0 ?_
  refine J.callSi X dX5_item_1 lk_X5_161 ce_X5_isTape (tw_isTape F (nI a)) (by decide) rfl (fun r h' e _ => ?_)
  obtain ⟨rfl, rfl⟩ := e
  refine J.if_neB (tgt := 9) X dX5_item_4 (by decide) (fun _ => ?_) (fun q9 => absurd q9 (fun z => z (nat_in (by decide) ha)))
  refine J.aload0 X dX5_item_9 ?_
  refine J.getf X dX5_item_10 fl_X5_39_X5 (S.o) rfl ?_
  refine J.iload1 X dX5_item_13 ?_
  refine J.iald X dX5_item_14 (S.r_ts) (rfl) (by omega) ?_
  refine J.topi (y := nI (j)) (hs) ?_
  refine J.if_geN (tgt := 21) X dX5_item_15 (by decide) (by omega) ?_
  refine J.iload2 X dX5_item_21 ?_
  refine J.iconst (v := nI 0) X dX5_item_22 (by decide) ?_
  refine J.aload0 X dX5_item_23 ?_
  refine J.getf X dX5_item_24 fl_X5_42_X5 (S.o) rfl ?_
  refine J.iload1 X dX5_item_27 ?_
  refine J.iald X dX5_item_28 (S.r_tz) (rfl) (by omega) ?_
  refine J.topi (y := nI (z)) (hzz) ?_
  refine J.iconst (v := nI 1) X dX5_item_29 (by decide) ?_
  refine J.isub X dX5_item_30 ?_
  refine J.callSi X dX5_item_31 lk_X5_54 ce_X5_in (tw_in F (nI i) 0 (nI z - nI 1)) (by decide) rfl (fun r h' e _ => ?_)
  obtain ⟨rfl, rfl⟩ := e
  refine J.if_neB (tgt := 40) X dX5_item_34 (by decide) (fun _ => ?_) (fun q9 => absurd q9 (fun q => q (nat_below (by omega) hi)))
  refine J.aload0 X dX5_item_40 ?_
  refine J.getf X dX5_item_41 fl_X5_47_X5 (S.o) rfl ?_
  refine J.iload1 X dX5_item_44 ?_
  refine J.aaldA X dX5_item_45 S.r_tp rfl (rfl) (by omega) ?_
  refine J.iload2 X dX5_item_46 ?_
  refine J.aload0 X dX5_item_47 ?_
  refine J.getf X dX5_item_48 fl_X5_39_X5 (S.o) rfl ?_
  refine J.iload1 X dX5_item_51 ?_
  refine J.iald X dX5_item_52 (S.r_ts) (rfl) (by omega) ?_
  refine J.topi (y := nI (j)) (hs) ?_
  refine J.lload3 X dX5_item_53 ?_
  refine J.callSl X dX5_item_54 lk_X5_168 ce_X5_fit (tw_fit F hj v) (by decide) rfl (fun r h' e _ => ?_)
  obtain ⟨rfl, rfl⟩ := e
  refine J.tw_row X dX5_item_57 S (by omega) (rfl) (by omega) (fun h S => ?_)
  refine J.iconst (v := nI 1) X dX5_item_58 (by decide) ?_
  refine J.zreturn X dX5_item_59 (rfl) (jRi.of ?_)
  exact ⟨rfl, S⟩
theorem tw_read0 {K : JK} {l : Launch} {hE : JIH} {A : Nat} {g sv kp go tx ac ky wt mn ts tz : Nat → Int32} {tp : Nat → Nat → Int64} {mv : Nat → Int64} {i0 i1 i2 i3 i4 i5 : Int32} (F : JF K) (T : TwR K hE A g sv kp go tx ac ky wt mn ts tz tp mv i0 i1 i2 i3 i4 i5) {t i : Int32} {r : Int32} (hf : titemAR ts tz t i r) :
    Ct K l yX5_read wX5_read 5 [.ref A, .int t, .int i] hE (jRl (fun r0 h' => r0 = tNO ∧ hE = h')) jNo := by
  refine st_X5_read (ls := [some (.ref A), some (.int t), some (.int i)]) F rfl (body := fun M X => ?_)
  have S := T.S
  refine J.iload1 X dX5_read_0 ?_
  refine J.callSi X dX5_read_1 lk_X5_161 ce_X5_isTape (tw_isTape F t) (by decide) rfl (fun r h' e _ => ?_)
  obtain ⟨rfl, rfl⟩ := e
  refine J.if_eqB (tgt := 43) X dX5_read_4 (by decide) (fun c1 => ?_) (fun c1 => ?_)
  · skip
    refine J.ldc2 (v := (-9223372036854775808)) X dX5_read_43 q2859 ?_
    refine J.lreturn X dX5_read_46 (jRl.of ?_)
    exact ⟨rfl, rfl⟩
  · skip
    rcases hf with ⟨e, -⟩ | ⟨a, ha, rfl, hf⟩
    · exact absurd c1 e
    refine J.aload0 X dX5_read_7 ?_
    refine J.getf X dX5_read_8 fl_X5_39_X5 (S.o) rfl ?_
    refine J.iload1 X dX5_read_11 ?_
    refine J.iald X dX5_read_12 (S.r_ts) (rfl) (by omega) ?_
    refine J.if_lt (tgt := 43) X dX5_read_13 (by decide) (fun c2 => ?_) (fun c2 => ?_)
    · skip
      refine J.ldc2 (v := (-9223372036854775808)) X dX5_read_43 q2859 ?_
      refine J.lreturn X dX5_read_46 (jRl.of ?_)
      exact ⟨rfl, rfl⟩
    · skip
      rcases hf with ⟨e, -⟩ | ⟨-, z, hz, hzz, e, -⟩
      · exact absurd e c2
      refine J.iload2 X dX5_read_16 ?_
      refine J.iconst (v := nI 0) X dX5_read_17 (by decide) ?_
      refine J.aload0 X dX5_read_18 ?_
      refine J.getf X dX5_read_19 fl_X5_42_X5 (S.o) rfl ?_
      refine J.iload1 X dX5_read_22 ?_
      refine J.iald X dX5_read_23 (S.r_tz) (rfl) (by omega) ?_
      refine J.topi (y := nI (z)) (hzz) ?_
      refine J.iconst (v := nI 1) X dX5_read_24 (by decide) ?_
      refine J.isub X dX5_read_25 ?_
      refine J.callSi X dX5_read_26 lk_X5_54 ce_X5_in (tw_in F i 0 (nI z - nI 1)) (by decide) rfl (fun r h' e _ => ?_)
      obtain ⟨rfl, rfl⟩ := e
      refine J.if_eqB (tgt := 43) X dX5_read_29 (by decide) (fun _ => ?_) (fun q9 => absurd q9 (e))
      refine J.ldc2 (v := (-9223372036854775808)) X dX5_read_43 q2859 ?_
      refine J.lreturn X dX5_read_46 (jRl.of ?_)
      exact ⟨rfl, rfl⟩
theorem tw_read {K : JK} {l : Launch} {hE : JIH} {A : Nat} {g sv kp go tx ac ky wt mn ts tz : Nat → Int32} {tp : Nat → Nat → Int64} {mv : Nat → Int64} {i0 i1 i2 i3 i4 i5 : Int32} (F : JF K) (T : TwR K hE A g sv kp go tx ac ky wt mn ts tz tp mv i0 i1 i2 i3 i4 i5) {a i z : Nat} (ha : a ≤ 5) (hz : z ≤ 60) (hi : i < z) (hs : ¬ ts a < 0) (hzz : tz a = nI z) :
    Ct K l yX5_read wX5_read 5 [.ref A, .int (nI a), .int (nI i)] hE (jRl (fun r0 h' => r0 = tp a i ∧ hE = h')) jNo := by
  refine st_X5_read (ls := [some (.ref A), some (.int (nI a)), some (.int (nI i))]) F rfl (body := fun M X => ?_)
  have S := T.S
  refine J.iload1 X dX5_read_0 ?_
  refine J.callSi X dX5_read_1 lk_X5_161 ce_X5_isTape (tw_isTape F (nI a)) (by decide) rfl (fun r h' e _ => ?_)
  obtain ⟨rfl, rfl⟩ := e
  refine J.if_eqB (tgt := 43) X dX5_read_4 (by decide) (fun q9 => absurd q9 (fun z => z (nat_in (by decide) ha))) (fun _ => ?_)
  refine J.aload0 X dX5_read_7 ?_
  refine J.getf X dX5_read_8 fl_X5_39_X5 (S.o) rfl ?_
  refine J.iload1 X dX5_read_11 ?_
  refine J.iald X dX5_read_12 (S.r_ts) (rfl) (by omega) ?_
  refine J.if_lt (tgt := 43) X dX5_read_13 (by decide) (fun q9 => absurd q9 (hs)) (fun _ => ?_)
  refine J.iload2 X dX5_read_16 ?_
  refine J.iconst (v := nI 0) X dX5_read_17 (by decide) ?_
  refine J.aload0 X dX5_read_18 ?_
  refine J.getf X dX5_read_19 fl_X5_42_X5 (S.o) rfl ?_
  refine J.iload1 X dX5_read_22 ?_
  refine J.iald X dX5_read_23 (S.r_tz) (rfl) (by omega) ?_
  refine J.topi (y := nI (z)) (hzz) ?_
  refine J.iconst (v := nI 1) X dX5_read_24 (by decide) ?_
  refine J.isub X dX5_read_25 ?_
  refine J.callSi X dX5_read_26 lk_X5_54 ce_X5_in (tw_in F (nI i) 0 (nI z - nI 1)) (by decide) rfl (fun r h' e _ => ?_)
  obtain ⟨rfl, rfl⟩ := e
  refine J.if_eqB (tgt := 43) X dX5_read_29 (by decide) (fun q9 => absurd q9 (fun q => q (nat_below (by omega) hi))) (fun _ => ?_)
  refine J.aload0 X dX5_read_32 ?_
  refine J.getf X dX5_read_33 fl_X5_47_X5 (S.o) rfl ?_
  refine J.iload1 X dX5_read_36 ?_
  refine J.aaldA X dX5_read_37 S.r_tp rfl (rfl) (by omega) ?_
  refine J.iload2 X dX5_read_38 ?_
  refine J.lald X dX5_read_39 (S.r_row (by omega)) (rfl) (by omega) ?_
  refine J.goto (tgt := 46) X dX5_read_40 (by decide) ?_
  refine J.lreturn X dX5_read_46 (jRl.of ?_)
  exact ⟨rfl, rfl⟩
def ttapeOk (s n : Int32) : Prop := (-1 ≤ s ∧ s ≤ nI 4) ∧ (s < 0 ∨ n ≤ nI 60)
theorem tw_tape0 {K : JK} {l : Launch} {hE : JIH} {A : Nat} (F : JF K) {t s n r : Int32} (hf : (¬ (nI 0 ≤ t ∧ t ≤ nI 5) ∧ r = -1) ∨ ((nI 0 ≤ t ∧ t ≤ nI 5) ∧ ¬ ttapeOk s n ∧ r = -2) ∨ ((nI 0 ≤ t ∧ t ≤ nI 5) ∧ ttapeOk s n ∧ ¬ s < 0 ∧ n < 0 ∧ r = -14)) :
    Ct K l yX5_tape wX5_tape 5 [.ref A, .int t, .int s, .int n] hE (jRi (fun r0 h' => r0 = r ∧ hE = h')) jNo := by
  refine st_X5_tape (ls := [some (.ref A), some (.int t), some (.int s), some (.int n), none]) F rfl (body := fun M X => ?_)
  refine J.iload1 X dX5_tape_0 ?_
  refine J.callSi X dX5_tape_1 lk_X5_161 ce_X5_isTape (tw_isTape F t) (by decide) rfl (fun r h' e _ => ?_)
  obtain ⟨rfl, rfl⟩ := e
  refine J.if_neB (tgt := 9) X dX5_tape_4 (by decide) (fun c1 => ?_) (fun c1 => ?_)
  · skip
    refine J.iload2 X dX5_tape_9 ?_
    refine J.iconst (v := -1) X dX5_tape_10 (by decide) ?_
    refine J.iconst (v := nI 4) X dX5_tape_11 (by decide) ?_
    refine J.callSi X dX5_tape_12 lk_X5_54 ce_X5_in (tw_in F s (-1) 4) (by decide) rfl (fun r h' e _ => ?_)
    obtain ⟨rfl, rfl⟩ := e
    have bad : ¬ ttapeOk s n → J M hE 28 [some (.ref A), some (.int t), some (.int s), some (.int n), none] [] := by
      intro hb
      refine J.bipush (v := -2) X dX5_tape_28 (by decide) ?_
      refine J.zreturn X dX5_tape_30 (rfl) (jRi.of ?_)
      rcases hf with ⟨e, -⟩ | ⟨-, -, e⟩ | ⟨-, e, -⟩
      · exact absurd c1 e
      · exact ⟨e.symm, rfl⟩
      · exact absurd e hb
    have good : ttapeOk s n → J M hE 31 [some (.ref A), some (.int t), some (.int s), some (.int n), none] [] := by
      intro hb
      rcases hf with ⟨e, -⟩ | ⟨-, e, -⟩ | ⟨-, -, h1, h2, rfl⟩
      · exact absurd c1 e
      · exact absurd hb e
      refine J.iload2 X dX5_tape_31 ?_
      refine J.if_lt (tgt := 42) X dX5_tape_32 (by decide) (fun q9 => absurd q9 (h1)) (fun _ => ?_)
      refine J.iload3 X dX5_tape_35 ?_
      refine J.if_ge (tgt := 42) X dX5_tape_36 (by decide) (fun q9 => absurd q9 (fun z => absurd h2 (Int32.not_lt.mpr z))) (fun _ => ?_)
      refine J.bipush (v := -14) X dX5_tape_39 (by decide) ?_
      refine J.zreturn X dX5_tape_41 (rfl) (jRi.of ?_)
      exact ⟨rfl, rfl⟩
    refine J.if_eqB (tgt := 28) X dX5_tape_15 (by decide) (fun c2 => ?_) (fun c2 => ?_)
    · skip
      exact bad (fun z => c2 z.1)
    · skip
      refine J.iload2 X dX5_tape_18 ?_
      refine J.if_lt (tgt := 31) X dX5_tape_19 (by decide) (fun c3 => ?_) (fun c3 => ?_)
      · skip
        exact good ⟨c2, Or.inl c3⟩
      · skip
        refine J.iload3 X dX5_tape_22 ?_
        refine J.bipush (v := nI 60) X dX5_tape_23 (by decide) ?_
        refine J.icmp_le (tgt := 31) X dX5_tape_25 (by decide) (fun c4 => ?_) (fun c4 => ?_)
        · skip
          exact good ⟨c2, Or.inr c4⟩
        · skip
          exact bad (fun z => z.2.elim c3 c4)
  · skip
    refine J.iconst (v := -1) X dX5_tape_7 (by decide) ?_
    refine J.zreturn X dX5_tape_8 (rfl) (jRi.of ?_)
    rcases hf with ⟨-, e⟩ | ⟨e, -⟩ | ⟨e, -⟩
    · exact ⟨e.symm, rfl⟩
    · exact absurd e c1
    · exact absurd e c1
def tzero (c : Nat) (f : Nat → Int64) : Nat → Int64 := fun j => if j < c then 0 else f j
theorem tzero_s (c : Nat) (f : Nat → Int64) : vp_updL (tzero c f) c 0 = tzero (c + 1) f := by
  funext j; unfold vp_updL tzero
  by_cases e : j = c
  · rw [if_pos e, if_pos (by omega)]
  · rw [if_neg e]
    by_cases e2 : j < c
    · rw [if_pos e2, if_pos (by omega)]
    · rw [if_neg e2, if_neg (by omega)]
theorem tzero_0 (f : Nat → Int64) : tzero 0 f = f := by funext j; unfold tzero; rw [if_neg (by omega)]
theorem va_up_id {α : Type} (f : Nat → α) (k : Nat) : va_up f k (f k) = f := by funext j; unfold va_up; split <;> simp_all
theorem tw_tape {K : JK} {l : Launch} {hE : JIH} {A : Nat} {g sv kp go tx ac ky wt mn ts tz : Nat → Int32} {tp : Nat → Nat → Int64} {mv : Nat → Int64} {i0 i1 i2 i3 i4 i5 : Int32} (F : JF K) (T : TwR K hE A g sv kp go tx ac ky wt mn ts tz tp mv i0 i1 i2 i3 i4 i5) {a : Nat} {s n : Int32} (ha : a ≤ 5) (hok : ttapeOk s n) (hn : s < 0 ∨ ¬ n < 0) :
    Ct K l yX5_tape wX5_tape 5 [.ref A, .int (nI a), .int s, .int n] hE (jRi (fun r0 h' => r0 = nI 1 ∧ TwS K hE h' A g sv kp go tx ac ky wt mn (upd ts a s) (upd tz a (if s < 0 then nI 0 else n)) (va_up tp a (tzero 60 (tp a))) mv i0 i1 i2 i3 i4 i5)) jNo := by
  refine st_X5_tape (ls := [some (.ref A), some (.int (nI a)), some (.int s), some (.int n), none]) F rfl (body := fun M X => ?_)
  have S := T.S
  have loop : ∀ (q c : Nat) (h1 : JIH), c + q = 60 → TwS K hE h1 A g sv kp go tx ac ky wt mn (upd ts a s) (upd tz a (if s < 0 then nI 0 else n)) (va_up tp a (tzero c (tp a))) mv i0 i1 i2 i3 i4 i5 → J M h1 67 [some (.ref A), some (.int (nI a)), some (.int s), some (.int n), some (.int (nI c))] [] := by
    intro q
    induction q with
    | zero =>
      intro c h1 hc S
      refine J.iload4 X dX5_tape_67 ?_
      refine J.bipush (v := nI 60) X dX5_tape_69 (by decide) ?_
      refine J.icmp_geN (tgt := 90) X dX5_tape_71 (by decide) (by omega) (by omega) (fun _ => ?_) (fun q9 => absurd q9 (by omega))
      refine J.iconst (v := nI 1) X dX5_tape_90 (by decide) ?_
      refine J.zreturn X dX5_tape_91 (rfl) (jRi.of ?_)
      exact ⟨rfl, by rw [show c = 60 by omega] at S; exact S⟩
    | succ q ih =>
      intro c h1 hc S
      refine J.iload4 X dX5_tape_67 ?_
      refine J.bipush (v := nI 60) X dX5_tape_69 (by decide) ?_
      refine J.icmp_geN (tgt := 90) X dX5_tape_71 (by decide) (by omega) (by omega) (fun q9 => absurd q9 (by omega)) (fun _ => ?_)
      refine J.aload0 X dX5_tape_74 ?_
      refine J.getf X dX5_tape_75 fl_X5_47_X5 (S.o) rfl ?_
      refine J.iload1 X dX5_tape_78 ?_
      refine J.aaldA X dX5_tape_79 S.r_tp rfl (rfl) (by omega) ?_
      refine J.iload4 X dX5_tape_80 ?_
      refine J.lconst (v := 0) X dX5_tape_82 (by decide) ?_
      refine J.tw_row X dX5_tape_83 S (by omega) (rfl) (by omega) (fun h S => ?_)
      rw [va_up_self, bx_uu, tzero_s] at S
      refine J.iinc4N (d := 1) X dX5_tape_84 (by decide) ?_
      refine J.goto (tgt := 67) X dX5_tape_87 (by decide) ?_
      exact ih _ _ (by omega) S
  have mid : J M hE 42 [some (.ref A), some (.int (nI a)), some (.int s), some (.int n), none] [] := by
    refine J.aload0 X dX5_tape_42 ?_
    refine J.getf X dX5_tape_43 fl_X5_39_X5 (S.o) rfl ?_
    refine J.iload1 X dX5_tape_46 ?_
    refine J.iload2 X dX5_tape_47 ?_
    refine J.tw_ts X dX5_tape_48 S (rfl) (by omega) (fun h S => ?_)
    refine J.aload0 X dX5_tape_49 ?_
    refine J.getf X dX5_tape_50 fl_X5_42_X5 (S.o) rfl ?_
    refine J.iload1 X dX5_tape_53 ?_
    refine J.iload2 X dX5_tape_54 ?_
    refine J.if_ge (tgt := 62) X dX5_tape_55 (by decide) (fun c1 => ?_) (fun c1 => ?_)
    · skip
      refine J.iload3 X dX5_tape_62 ?_
      refine J.tw_tz X dX5_tape_63 S (rfl) (by omega) (fun h S => ?_)
      refine J.iconst (v := nI 0) X dX5_tape_64 (by decide) ?_
      refine J.istore4 X dX5_tape_65 ?_
      rw [← va_up_id tp a, ← tzero_0 (tp a)] at S
      exact loop 60 0 _ rfl (by rw [if_neg (Int32.not_lt.mpr c1)]; exact S)
    · skip
      refine J.iconst (v := nI 0) X dX5_tape_58 (by decide) ?_
      refine J.goto (tgt := 63) X dX5_tape_59 (by decide) ?_
      refine J.tw_tz X dX5_tape_63 S (rfl) (by omega) (fun h S => ?_)
      refine J.iconst (v := nI 0) X dX5_tape_64 (by decide) ?_
      refine J.istore4 X dX5_tape_65 ?_
      rw [← va_up_id tp a, ← tzero_0 (tp a)] at S
      exact loop 60 0 _ rfl (by rw [if_pos (Int32.not_le.mp c1)]; exact S)
  refine J.iload1 X dX5_tape_0 ?_
  refine J.callSi X dX5_tape_1 lk_X5_161 ce_X5_isTape (tw_isTape F (nI a)) (by decide) rfl (fun r h' e _ => ?_)
  obtain ⟨rfl, rfl⟩ := e
  refine J.if_neB (tgt := 9) X dX5_tape_4 (by decide) (fun _ => ?_) (fun q9 => absurd q9 (fun z => z (nat_in (by decide) ha)))
  refine J.iload2 X dX5_tape_9 ?_
  refine J.iconst (v := -1) X dX5_tape_10 (by decide) ?_
  refine J.iconst (v := nI 4) X dX5_tape_11 (by decide) ?_
  refine J.callSi X dX5_tape_12 lk_X5_54 ce_X5_in (tw_in F s (-1) 4) (by decide) rfl (fun r h' e _ => ?_)
  obtain ⟨rfl, rfl⟩ := e
  refine J.if_eqB (tgt := 28) X dX5_tape_15 (by decide) (fun q9 => absurd q9 (fun z => z hok.1)) (fun _ => ?_)
  refine J.iload2 X dX5_tape_18 ?_
  refine J.if_lt (tgt := 31) X dX5_tape_19 (by decide) (fun c3 => ?_) (fun c3 => ?_)
  · skip
    refine J.iload2 X dX5_tape_31 ?_
    refine J.if_lt (tgt := 42) X dX5_tape_32 (by decide) (fun _ => ?_) (fun q9 => absurd q9 (fun z => z c3))
    exact mid
  · skip
    refine J.iload3 X dX5_tape_22 ?_
    refine J.bipush (v := nI 60) X dX5_tape_23 (by decide) ?_
    refine J.icmp_le (tgt := 31) X dX5_tape_25 (by decide) (fun _ => ?_) (fun q9 => absurd q9 (fun z => hok.2.elim c3 z))
    refine J.iload2 X dX5_tape_31 ?_
    refine J.if_lt (tgt := 42) X dX5_tape_32 (by decide) (fun q9 => absurd q9 (c3)) (fun _ => ?_)
    refine J.iload3 X dX5_tape_35 ?_
    refine J.if_ge (tgt := 42) X dX5_tape_36 (by decide) (fun _ => ?_) (fun q9 => absurd q9 (fun z => hn.elim c3 (fun y => z (Int32.not_lt.mp y))))
    exact mid
