/-! SegmentedCache: item -/
def gitem (g : GA) (t i : Int32) (v : Int64) (r : Int32) (g' : GA) : Prop := (¬ ((0 : Int32) ≤ t ∧ t ≤ 5) ∧ r = -1 ∧ g' = g) ∨ ∃ j, j < 6 ∧ t = nI j ∧ ((g.tp j = none ∧ r = -11 ∧ g' = g) ∨ ∃ so n vv, g.tp j = some (so, n, vv) ∧ ((¬ (nI 0 ≤ i ∧ i ≤ nI n - nI 1) ∧ r = -13 ∧ g' = g) ∨
  ((nI 0 ≤ i ∧ i ≤ nI n - nI 1) ∧ ∃ k, k < n ∧ i = nI k ∧ r = nI 1 ∧ g' = g.wtp (upT g.tp j (some (so, n, vp_updL vv k (tfit so v)))))))
theorem narB (x : Int32) : vp_nar .byte x.toInt8.toInt32 = x.toInt8.toInt32 ∧ fits .byte (.int x.toInt8.toInt32) = true := by
  refine ⟨?_, ?_⟩
  · show x.toInt8.toInt32.toInt8.toInt32 = _
    rw [Int8.toInt8_toInt32]
  · have h1 : (-128 : Int32) ≤ x.toInt8.toInt32 ∧ x.toInt8.toInt32 ≤ 127 := by
      rw [Int32.le_iff_toInt_le, Int32.le_iff_toInt_le, Int8.toInt_toInt32]
      have a1 := Int8.le_toInt x.toInt8
      have a2 := Int8.toInt_lt x.toInt8
      exact ⟨a1, by show _ ≤ (127 : Int); omega⟩
    simpa [fits] using h1
theorem narS (x : Int32) : vp_nar .short x.toInt16.toInt32 = x.toInt16.toInt32 ∧ fits .short (.int x.toInt16.toInt32) = true := by
  refine ⟨?_, ?_⟩
  · show x.toInt16.toInt32.toInt16.toInt32 = _
    rw [Int16.toInt16_toInt32]
  · have h1 : (-32768 : Int32) ≤ x.toInt16.toInt32 ∧ x.toInt16.toInt32 ≤ 32767 := by
      rw [Int32.le_iff_toInt_le, Int32.le_iff_toInt_le, Int16.toInt_toInt32]
      have a1 := Int16.le_toInt x.toInt16
      have a2 := Int16.toInt_lt x.toInt16
      exact ⟨a1, by show _ ≤ (32767 : Int); omega⟩
    simpa [fits] using h1
theorem updL_at (f : Nat → Int64) (k : Nat) (x : Int64) (j : Nat) : vp_updL f k x j = if j = k then x else f j := rfl
set_option maxHeartbeats 200000 in
theorem x_item {K : JK} {l : Launch} {hE : JIH} {o : Nat} {p : GP} {g : GA} {tz tzi : Nat} (F : JF K) (hl : l.stackTraces = false) (S : GX K hE o p g tz tzi) {t i r : Int32} {v : Int64} {g' : GA} (hf : gitem g t i v r g') (rm : RM hE tz 100) :
    Ct K l yX0_item wX0_item 13 [.ref o, .int t, .int i, .long v] hE (jRi (fun r0 h' => r0 = r ∧ GX K h' o p g' tz tzi ∧ hres h' ≤ hres hE + 15 ∧ Fr n5 hE h')) jNo := by
  have so := S.o
  obtain ⟨ta, D, S1⟩ := S.cc
  have r8 := S1.rm8 rm
  clear S1
  have gw := S.gw
  obtain ⟨⟨ft, ctp, hft⟩, hw⟩ := id gw
  refine st_X0_item (ls := [some (.ref o), some (.int t), some (.int i), some (.long v), none, none, none, none, none, none, none]) F rfl (body := fun M X => ?_)
  refine J.iload1 X dX0_item_0 ?_
  refine J.callSi X dX0_item_1 lk_X0_315 ce_X0_isTape (x_isTape F t) (by decide) rfl (fun r0 h2 e _ => ?_)
  obtain ⟨rfl, rfl⟩ := e
  rcases hf with ⟨q, rfl, rfl⟩ | ⟨j, hj, rfl, hf⟩
  · skip
    refine J.if_neB (tgt := 9) X dX0_item_4 (by decide) (fun q9 => absurd q9 (q)) (fun _ => ?_)
    refine J.iconst (v := -1) X dX0_item_7 (by decide) ?_
    refine J.ireturn X dX0_item_8 (jRi.of ?_)
    exact ⟨rfl, S, by omega, Fr.rf _ _⟩
  obtain ⟨rw, ct, gv⟩ := hw j hj
  have hfj := hft j hj
  refine J.if_neB (tgt := 9) X dX0_item_4 (by decide) (fun _ => ?_) (fun q9 => absurd q9 (fun z => z ⟨nI_le (a := 0) (Nat.zero_le _) (by omega), nI_le (b := 5) (by omega) (by decide)⟩))
  refine J.aload0 X dX0_item_9 ?_
  refine J.getf X dX0_item_10 fl_X0_55_X0 (so.1) rfl ?_
  refine J.iload1 X dX0_item_13 ?_
  refine J.aald (t := 9) X dX0_item_14 ctp.1 rfl rfl hj ?_
  rw [hfj]
  refine J.astore5 X dX0_item_15 ?_
  refine J.aload5 X dX0_item_17 ?_
  refine J.iload2 X dX0_item_19 ?_
  have hw0 : ∃ w, ghas (g.tp j) i w ∧ (∀ pl, w = some pl → r = pl ∧ g' = g) := by
    rcases hf with ⟨e, rfl, rfl⟩ | ⟨so', n, vv, e, ⟨q, rfl, rfl⟩ | ⟨q, k, hk, rfl, rfl, rfl⟩⟩
    · exact ⟨some (-11), Or.inl ⟨e, rfl⟩, fun pl e => ⟨Option.some.inj e, rfl⟩⟩
    · exact ⟨some (-13), Or.inr ⟨_, _, _, e, Or.inl ⟨q, rfl⟩⟩, fun pl e => ⟨Option.some.inj e, rfl⟩⟩
    · exact ⟨none, Or.inr ⟨_, _, _, e, Or.inr ⟨q, rfl⟩⟩, fun pl e => by cases e⟩
  obtain ⟨w, hgh, hww⟩ := hw0
  refine J.callVNvX X dX0_item_20 lk_X0_357_X4 ce_X4_has (tp_has F hl ct.1 gv hgh (by omega)) (by decide) rfl (ct.1) rfl (fun h1 z _ => ?_) (fun x E h1 z _ => ?_)
  rotate_left
  · obtain ⟨rfl, pl, fs, e1, rfl, f1, f2, rfl⟩ := z
    obtain ⟨rfl, rfl⟩ := hww pl e1
    refine JT.catch (a := 17) (b := 23) (t := 26) (ct := 245) X [] [] rfl (fun z hz => by cases hz) (by decide) (by decide) cl_X0_245 q2296 ?_
    refine J.astore6 X dX0_item_26 ?_
    refine J.aload6 X dX0_item_28 ?_
    refine J.getf X dX0_item_30 fl_X0_247_X11 (hget_push_new _ _ _) f2 ?_
    refine J.ireturn X dX0_item_33 (jRi.of ?_)
    have f9 : Fr (fun z => z = 9) hE (hpush hE 9 (jO 11 fs)) := Fr.push _ _ _ _
    exact ⟨rfl, S.push _ _, by rw [hres_push]; show _ + (8 + fs.length) ≤ _; omega, f9.mono (fun z hz => by show z ≠ 5; omega)⟩
  obtain ⟨rfl, rfl⟩ := z
  rcases hf with ⟨e, -⟩ | ⟨so', n, vv, e, ⟨q, -⟩ | ⟨q, k, hk, rfl, rfl, rfl⟩⟩
  · rcases hgh with ⟨-, z⟩ | ⟨_, _, _, e', -⟩
    · cases z
    · rw [e] at e'; cases e'
  · rcases hgh with ⟨-, z⟩ | ⟨_, _, _, e', ⟨-, z⟩ | ⟨q', -⟩⟩
    · cases z
    · cases z
    · rw [e] at e'; cases e'; exact absurd q' q
  rw [e] at gv
  cases rw with
  | none => cases gv
  | some a =>
  obtain ⟨so2, n2, v2, e0, hn, hv⟩ := gv
  cases e0
  -- the end
  have fin : ∀ (e1 : va_E), hc hE (48 + j) a e1 → ∀ e2, esz e2 = esz e1 → GV K (hset hE a e2) (48 + j) (some a) (some (so', n, vp_updL vv k (tfit so' v))) → ∀ ls : List (Option Value), ls.length = 11 → J M (hset hE a e2) 180 ls [] := by
    intro e1 c1 e2 he gv2 ls hls
    have f1 : Fr (fun z => z = 48 + j) hE (hset hE a e2) := Fr.set c1 rfl
    have r1 : hres (hset hE a e2) = hres hE := hres_setS c1 he
    refine J.iconst (v := nI 1) X dX0_item_180 (by decide) ?_
    refine J.ireturn X dX0_item_181 (jRi.of ?_)
    exact ⟨rfl, S.tpc f1 (fun z hz => by omega) (gw.up hj f1 (fun z hz => by omega) (ct.fr f1 (by omega)) gv2), by omega, f1.mono (fun z hz => by show z ≠ 5; omega)⟩
  have up : ∀ {P : Int64 → Prop} {f' : Nat → Int64}, (∀ i, i < n → vv i = f' i) → ∀ y, tfit so' v = y → ∀ i, i < n → vp_updL vv k (tfit so' v) i = vp_updL f' k y i := by
    intro P f' h y hy i hi
    rw [updL_at, updL_at, hy]
    by_cases q : i = k
    · rw [if_pos q, if_pos q]
    · rw [if_neg q, if_neg q]; exact h i hi
  have upI : ∀ {f : Nat → Int32} {x : Int32}, (∀ i, i < n → vv i = (f i).toInt64) → tfit so' v = x.toInt64 → ∀ i, i < n → vp_updL vv k (tfit so' v) i = (upd f k x i).toInt64 := by
    intro f x h hy i hi
    rw [updL_at, upd_at, hy]
    by_cases q : i = k
    · rw [if_pos q, if_pos q]
    · rw [if_neg q, if_neg q]; exact h i hi
  have upF : ∀ {f : Nat → Int32} {x : Int32} {ty : FieldType}, (∀ i, i < n → fits ty (.int (f i)) = true) → fits ty (.int x) = true → ∀ i, i < n → fits ty (.int (upd f k x i)) = true := by
    intro f x ty h hx i hi
    rw [upd_at]
    by_cases q : i = k
    · rw [if_pos q]; exact hx
    · rw [if_neg q]; exact h i hi
  refine J.goto (tgt := 34) X dX0_item_23 (by decide) ?_
  refine J.aload5 X dX0_item_34 ?_
  refine J.getf X dX0_item_36 fl_X0_318_X4 (ct.1) rfl ?_
  refine J.astore10 X dX0_item_39 ?_
  refine J.aload10 X dX0_item_41 ?_
  rcases hv with ⟨rfl, f, ca, hv⟩ | hv
  · skip
    refine J.instAY (t := 1) (ty := .byte) X dX0_item_43 cl_X0_360 rfl ra_B ca.1 ?_
    refine J.if_eq (tgt := 66) X dX0_item_46 (by decide) (fun q9 => absurd q9 (by decide)) (fun _ => ?_)
    refine J.aload10 X dX0_item_49 ?_
    refine J.castAY (t := 1) (ty := .byte) X dX0_item_51 cl_X0_360 rfl ra_B ca.1 ?_
    refine J.astore6 X dX0_item_54 ?_
    refine J.aload6 X dX0_item_56 ?_
    refine J.iload2 X dX0_item_58 ?_
    refine J.lload3 X dX0_item_59 ?_
    refine J.l2i X dX0_item_60 ?_
    refine J.i2b X dX0_item_61 ?_
    refine J.bast X dX0_item_62 ca.1 rfl hk ?_
    refine J.goto (tgt := 180) X dX0_item_63 (by decide) ?_
    rw [(narB _).1]
    exact fin _ ca _ (by rfl) ⟨0, n, _, rfl, hn, Or.inl ⟨rfl, _, ca.same _, fun i hi => ⟨upI (fun i hi => (hv i hi).1) rfl i hi, upF (fun i hi => (hv i hi).2) (narB _).2 i hi⟩⟩⟩ _ rfl
  rcases hv with ⟨rfl, f, ca, hv⟩ | hv
  · skip
    refine J.instAN (t := 2) (ty := .short) X dX0_item_43 cl_X0_360 rfl ra_S (nc_SB F) ca.1 ?_
    refine J.if_eq (tgt := 66) X dX0_item_46 (by decide) (fun _ => ?_) (fun q9 => absurd q9 (fun z => z rfl))
    refine J.aload5 X dX0_item_66 ?_
    refine J.getf X dX0_item_68 fl_X0_318_X4 (ct.1) rfl ?_
    refine J.astore10 X dX0_item_71 ?_
    refine J.aload10 X dX0_item_73 ?_
    refine J.instAY (t := 2) (ty := .short) X dX0_item_75 cl_X0_322 rfl ra_S ca.1 ?_
    refine J.if_eq (tgt := 98) X dX0_item_78 (by decide) (fun q9 => absurd q9 (by decide)) (fun _ => ?_)
    refine J.aload10 X dX0_item_81 ?_
    refine J.castAY (t := 2) (ty := .short) X dX0_item_83 cl_X0_322 rfl ra_S ca.1 ?_
    refine J.astore7 X dX0_item_86 ?_
    refine J.aload7 X dX0_item_88 ?_
    refine J.iload2 X dX0_item_90 ?_
    refine J.lload3 X dX0_item_91 ?_
    refine J.l2i X dX0_item_92 ?_
    refine J.i2s X dX0_item_93 ?_
    refine J.sast X dX0_item_94 ca.1 rfl hk ?_
    refine J.goto (tgt := 180) X dX0_item_95 (by decide) ?_
    rw [(narS _).1]
    exact fin _ ca _ (by rfl) ⟨1, n, _, rfl, hn, Or.inr (Or.inl ⟨rfl, _, ca.same _, fun i hi => ⟨upI (fun i hi => (hv i hi).1) rfl i hi, upF (fun i hi => (hv i hi).2) (narS _).2 i hi⟩⟩)⟩ _ rfl
  rcases hv with ⟨rfl, f, ca, hv⟩ | hv
  · skip
    refine J.instAN (t := 0) (ty := .int) X dX0_item_43 cl_X0_360 rfl ra_I (nc_IB F) ca.1 ?_
    refine J.if_eq (tgt := 66) X dX0_item_46 (by decide) (fun _ => ?_) (fun q9 => absurd q9 (fun z => z rfl))
    refine J.aload5 X dX0_item_66 ?_
    refine J.getf X dX0_item_68 fl_X0_318_X4 (ct.1) rfl ?_
    refine J.astore10 X dX0_item_71 ?_
    refine J.aload10 X dX0_item_73 ?_
    refine J.instAN (t := 0) (ty := .int) X dX0_item_75 cl_X0_322 rfl ra_I (nc_IS F) ca.1 ?_
    refine J.if_eq (tgt := 98) X dX0_item_78 (by decide) (fun _ => ?_) (fun q9 => absurd q9 (fun z => z rfl))
    refine J.aload5 X dX0_item_98 ?_
    refine J.getf X dX0_item_100 fl_X0_318_X4 (ct.1) rfl ?_
    refine J.astore10 X dX0_item_103 ?_
    refine J.aload10 X dX0_item_105 ?_
    refine J.instAY (t := 0) (ty := .int) X dX0_item_107 cl_X0_361 rfl ra_I ca.1 ?_
    refine J.if_eq (tgt := 129) X dX0_item_110 (by decide) (fun q9 => absurd q9 (by decide)) (fun _ => ?_)
    refine J.aload10 X dX0_item_113 ?_
    refine J.castAY (t := 0) (ty := .int) X dX0_item_115 cl_X0_361 rfl ra_I ca.1 ?_
    refine J.astore8 X dX0_item_118 ?_
    refine J.aload8 X dX0_item_120 ?_
    refine J.iload2 X dX0_item_122 ?_
    refine J.lload3 X dX0_item_123 ?_
    refine J.l2i X dX0_item_124 ?_
    refine J.iast X dX0_item_125 ca.1 rfl hk ?_
    refine J.goto (tgt := 180) X dX0_item_126 (by decide) ?_
    exact fin _ ca _ (by rfl) ⟨2, n, _, rfl, hn, Or.inr (Or.inr (Or.inl ⟨rfl, _, ca.same _, upI hv rfl⟩))⟩ _ rfl
  rcases hv with ⟨rfl, f, ca, hv⟩ | ⟨rfl, f, ca, hv⟩
  · skip
    refine J.instAN (t := 3) (ty := .long) X dX0_item_43 cl_X0_360 rfl ra_J (nc_JB F) ca.1 ?_
    refine J.if_eq (tgt := 66) X dX0_item_46 (by decide) (fun _ => ?_) (fun q9 => absurd q9 (fun z => z rfl))
    refine J.aload5 X dX0_item_66 ?_
    refine J.getf X dX0_item_68 fl_X0_318_X4 (ct.1) rfl ?_
    refine J.astore10 X dX0_item_71 ?_
    refine J.aload10 X dX0_item_73 ?_
    refine J.instAN (t := 3) (ty := .long) X dX0_item_75 cl_X0_322 rfl ra_J (nc_JS F) ca.1 ?_
    refine J.if_eq (tgt := 98) X dX0_item_78 (by decide) (fun _ => ?_) (fun q9 => absurd q9 (fun z => z rfl))
    refine J.aload5 X dX0_item_98 ?_
    refine J.getf X dX0_item_100 fl_X0_318_X4 (ct.1) rfl ?_
    refine J.astore10 X dX0_item_103 ?_
    refine J.aload10 X dX0_item_105 ?_
    refine J.instAN (t := 3) (ty := .long) X dX0_item_107 cl_X0_361 rfl ra_J (nc_JI F) ca.1 ?_
    refine J.if_eq (tgt := 129) X dX0_item_110 (by decide) (fun _ => ?_) (fun q9 => absurd q9 (fun z => z rfl))
    refine J.aload5 X dX0_item_129 ?_
    refine J.getf X dX0_item_131 fl_X0_318_X4 (ct.1) rfl ?_
    refine J.astore10 X dX0_item_134 ?_
    refine J.aload10 X dX0_item_136 ?_
    refine J.instAY (t := 3) (ty := .long) X dX0_item_138 cl_X0_362 rfl ra_J ca.1 ?_
    refine J.if_eq (tgt := 159) X dX0_item_141 (by decide) (fun q9 => absurd q9 (by decide)) (fun _ => ?_)
    refine J.aload10 X dX0_item_144 ?_
    refine J.castAY (t := 3) (ty := .long) X dX0_item_146 cl_X0_362 rfl ra_J ca.1 ?_
    refine J.astore9 X dX0_item_149 ?_
    refine J.aload9 X dX0_item_151 ?_
    refine J.iload2 X dX0_item_153 ?_
    refine J.lload3 X dX0_item_154 ?_
    refine J.last X dX0_item_155 ca.1 rfl hk ?_
    refine J.goto (tgt := 180) X dX0_item_156 (by decide) ?_
    exact fin _ ca _ (by rfl) ⟨3, n, _, rfl, hn, Or.inr (Or.inr (Or.inr (Or.inl ⟨rfl, _, ca.same _, up (P := fun _ => True) hv _ rfl⟩)))⟩ _ rfl
  refine J.instAN (t := 4) (ty := .boolean) X dX0_item_43 cl_X0_360 rfl ra_Z (nc_ZB F) ca.1 ?_
  refine J.if_eq (tgt := 66) X dX0_item_46 (by decide) (fun _ => ?_) (fun q9 => absurd q9 (fun z => z rfl))
  refine J.aload5 X dX0_item_66 ?_
  refine J.getf X dX0_item_68 fl_X0_318_X4 (ct.1) rfl ?_
  refine J.astore10 X dX0_item_71 ?_
  refine J.aload10 X dX0_item_73 ?_
  refine J.instAN (t := 4) (ty := .boolean) X dX0_item_75 cl_X0_322 rfl ra_Z (nc_ZS F) ca.1 ?_
  refine J.if_eq (tgt := 98) X dX0_item_78 (by decide) (fun _ => ?_) (fun q9 => absurd q9 (fun z => z rfl))
  refine J.aload5 X dX0_item_98 ?_
  refine J.getf X dX0_item_100 fl_X0_318_X4 (ct.1) rfl ?_
  refine J.astore10 X dX0_item_103 ?_
  refine J.aload10 X dX0_item_105 ?_
  refine J.instAN (t := 4) (ty := .boolean) X dX0_item_107 cl_X0_361 rfl ra_Z (nc_ZI F) ca.1 ?_
  refine J.if_eq (tgt := 129) X dX0_item_110 (by decide) (fun _ => ?_) (fun q9 => absurd q9 (fun z => z rfl))
  refine J.aload5 X dX0_item_129 ?_
  refine J.getf X dX0_item_131 fl_X0_318_X4 (ct.1) rfl ?_
  refine J.astore10 X dX0_item_134 ?_
  refine J.aload10 X dX0_item_136 ?_
  refine J.instAN (t := 4) (ty := .boolean) X dX0_item_138 cl_X0_362 rfl ra_Z (nc_ZJ F) ca.1 ?_
  refine J.if_eq (tgt := 159) X dX0_item_141 (by decide) (fun _ => ?_) (fun q9 => absurd q9 (fun z => z rfl))
  refine J.aload5 X dX0_item_159 ?_
  refine J.getf X dX0_item_161 fl_X0_318_X4 (ct.1) rfl ?_
  refine J.castAY (t := 4) (ty := .boolean) X dX0_item_164 cl_X0_364 rfl ra_Z ca.1 ?_
  refine J.iload2 X dX0_item_167 ?_
  refine J.lload3 X dX0_item_168 ?_
  refine J.lconst (v := 0) X dX0_item_169 (by decide) ?_
  refine J.lcmp X dX0_item_170 ?_
  have hcmp : (lg_cmp v 0 = 0) ↔ v = 0 := lg_cmp_eq v 0
  refine J.if_eq (tgt := 178) X dX0_item_171 (by decide) (fun c1 => ?_) (fun c1 => ?_)
  · skip
    refine J.iconst (v := nI 0) X dX0_item_178 (by decide) ?_
    refine J.zast X dX0_item_179 ca.1 rfl hk ?_
    have e0 : v = 0 := hcmp.mp c1
    exact fin _ ca _ (by rfl) ⟨4, n, _, rfl, hn, Or.inr (Or.inr (Or.inr (Or.inr ⟨rfl, _, ca.same _, fun i hi => ⟨upI (fun i hi => (hv i hi).1) (by rw [e0]; rfl) i hi, upF (fun i hi => (hv i hi).2) rfl i hi⟩⟩)))⟩ _ rfl
  · skip
    refine J.iconst (v := nI 1) X dX0_item_174 (by decide) ?_
    refine J.goto (tgt := 179) X dX0_item_175 (by decide) ?_
    refine J.zast X dX0_item_179 ca.1 rfl hk ?_
    have e0 : ¬ v = 0 := fun z => c1 (hcmp.mpr z)
    exact fin _ ca _ (by rfl) ⟨4, n, _, rfl, hn, Or.inr (Or.inr (Or.inr (Or.inr ⟨rfl, _, ca.same _, fun i hi => ⟨upI (fun i hi => (hv i hi).1) (by unfold tfit; rw [if_neg (by decide), if_neg (by decide), if_neg (by decide), if_neg (by decide), if_neg e0]; rfl) i hi, upF (fun i hi => (hv i hi).2) rfl i hi⟩⟩)))⟩ _ rfl
