/-! ArrayDeque.grow: 17 places become 36 -/
theorem ar_copyOf3 {K : JK} {l : Launch} {hE : JIH} (F : JF K) {mir t el : Nat} {f : Nat → Option Nat} (hm : jMir K mir) (c2 : hget hE el = some (jAR K 5 17 f)) (hk : ∀ i, i < 17 → ∀ y, f i = some y → ∃ fs, hget hE y = some (jO 8 fs)) (hr : hres hE + 44 ≤ jRL) :
    Ct K l yJ24_copyOf_3 wJ24_copyOf_3 1 [.ref el, .int (nI 36), .ref mir] hE (jRa (fun r h' => r = some (hnew hE) ∧ hpush hE t (jAR K 5 36 (fun i => if i < 17 then f i else none)) = h')) jNo := by
  refine st_J24_copyOf_3 (ls := [some (.ref el), some (.int (nI 36)), some (.ref mir), none]) F rfl (body := fun M X => ?_)
  refine J.aload2 X dJ24_copyOf_3_0 ?_
  refine J.ldcMir X hm dJ24_copyOf_3_1 q1961 ?_
  refine J.acmp_ne (rx := some _) (ry := some _) (tgt := 13) X dJ24_copyOf_3_3 (by decide) (fun q9 => absurd rfl q9) (fun _ => ?_)
  refine J.iload1 X dJ24_copyOf_3_6 ?_
  refine J.newR (tt := 5) (n := 36) t X dJ24_copyOf_3_7 cl_J24_2 q235 rfl rfl (by decide) hr ?_
  have ce := hget_push t (jAR K 5 36 (fun _ => none)) c2
  refine J.goto (tgt := 24) X dJ24_copyOf_3_10 (by decide) ?_
  refine J.astore3 X dJ24_copyOf_3_24 ?_
  refine J.aload0 X dJ24_copyOf_3_25 ?_
  refine J.iconst (v := nI 0) X dJ24_copyOf_3_26 (by decide) ?_
  refine J.aload3 X dJ24_copyOf_3_27 ?_
  refine J.iconst (v := nI 0) X dJ24_copyOf_3_28 (by decide) ?_
  refine J.aload0 X dJ24_copyOf_3_29 ?_
  refine J.alen (t := 5) (v := nI 17) X dJ24_copyOf_3_30 (ce) rfl (rfl) ?_
  refine J.iload1 X dJ24_copyOf_3_31 ?_
  refine J.mmin X dJ24_copyOf_3_32 q823 (by decide) ?_
  refine J.topi (y := nI (17)) (rfl) ?_
  refine J.copyQ (t0 := 5) (t1 := 5) (n := 17) (sp := 0) (dp := 0) X dJ24_copyOf_3_35 q824 ce (hget_push_new _ _ _) rfl rfl jcl_8 (Or.inr q3041) (fun i hi y hy => (by obtain ⟨fs, z⟩ := hk (0 + i) (by omega) y hy; exact ⟨fs, hget_push _ _ z⟩)) (by decide) (by decide) (by decide) (by decide) (by decide) ?_
  refine J.aload3 X dJ24_copyOf_3_38 ?_
  refine J.areturnA X dJ24_copyOf_3_39 (jRa.ofR ?_)
  refine ⟨rfl, ?_⟩
  rw [hset_push_new]
  congr 2
  funext i
  show (if i < 17 then f i else none) = if 0 ≤ i ∧ i < 0 + 17 then f (0 + (i - 0)) else none
  by_cases q : i < 17
  · rw [if_pos q, if_pos ⟨by omega, by omega⟩]; simp
  · rw [if_neg q, if_neg (by omega)]
theorem ar_copyOf2 {K : JK} {l : Launch} {hE : JIH} (F : JF K) {t el : Nat} {f : Nat → Option Nat} (c2 : hget hE el = some (jAR K 5 17 f)) (hk : ∀ i, i < 17 → ∀ y, f i = some y → ∃ fs, hget hE y = some (jO 8 fs)) (hr : hres hE + 44 ≤ jRL) :
    Ct K l yJ24_copyOf_2 wJ24_copyOf_2 2 [.ref el, .int (nI 36)] hE (jRa (fun r h' => r = some (hnew hE) ∧ hpush hE t (jAR K 5 36 (fun i => if i < 17 then f i else none)) = h')) jNo := by
  obtain ⟨mir, hm⟩ := jMir.ex F
  refine st_J24_copyOf_2 (ls := [some (.ref el), some (.int (nI 36))]) F rfl (body := fun M X => ?_)
  refine J.aload0 X dJ24_copyOf_2_0 ?_
  refine J.iload1 X dJ24_copyOf_2_1 ?_
  refine J.aload0 X dJ24_copyOf_2_2 ?_
  refine J.getClassA X hm dJ24_copyOf_2_3 q1957 c2 (by decide) ?_
  refine J.callSa X dJ24_copyOf_2_6 lk_J24_300 ce_J24_copyOf_3 (ar_copyOf3 F hm c2 hk hr (t := t)) (by decide) rfl (fun r h' e _ => ?_)
  obtain ⟨rfl, rfl⟩ := e
  refine J.areturnA X dJ24_copyOf_2_9 (jRa.of ?_)
  exact ⟨rfl, rfl⟩
theorem dq_grow {K : JK} {l : Launch} {hE : JIH} {t d el hd : Nat} {P : List (Nat × Nat)} {f : Nat → Option Nat} (F : JF K) (c1 : hc hE t d (jO 14 [.ref el, .int (nI hd), .int (nI hd)])) (c2 : hc hE t el (jAR K 5 17 f)) (hh : hd < 17) (hl : P.length = 17) (hf : ∀ i, i < P.length → f ((hd + i) % 17) = (P[i]?).map Prod.fst) (hk : ∀ p ∈ P, IsKey hE p.1 p.2) (ht1 : t ≠ 1) (hr : hres hE + 44 ≤ jRL) :
    Ct K l yJ4_grow wJ4_grow 4 [.ref d, .int (nI 1)] hE (jRv (fun h' => DQ K t h' d P ∧ Fr (fun x => x = t) hE h' ∧ hres h' = hres hE + 44)) jNo := by
  have hkK : ∀ i, i < 17 → ∀ y, f i = some y → ∃ k, IsKey hE y k := by
    intro i hi y hy
    have e : (hd + (i + 17 - hd) % 17) % 17 = i := by omega
    have h9 := hf ((i + 17 - hd) % 17) (by rw [hl]; omega)
    rw [e, hy] at h9
    obtain ⟨⟨a, k⟩, h8, h7⟩ := Option.map_eq_some_iff.mp h9.symm
    have := hk _ (List.mem_of_getElem? h8)
    cases h7
    exact ⟨_, this⟩
  have hke : ∀ i, i < 17 → ∀ y, f i = some y → ∃ fs, hget hE y = some (jO 8 fs) := fun i hi y hy => (by obtain ⟨k, z⟩ := hkK i hi y hy; exact ⟨_, z.2.1⟩)
  obtain ⟨y0, hy0⟩ : ∃ y, f hd = some y := by
    have h9 := hf 0 (by omega)
    rw [Nat.add_zero, Nat.mod_eq_of_lt hh, List.getElem?_eq_getElem (by omega)] at h9
    exact ⟨_, h9⟩
  refine st_J4_grow (ls := [some (.ref d), some (.int (nI 1)), none, none, none, none, none, none, none]) F rfl (body := fun M X => ?_)
  refine J.aload0 X dJ4_grow_0 ?_
  refine J.getf X dJ4_grow_1 fl_J4_3_J4 (c1.1) rfl ?_
  refine J.alen (t := 5) (v := nI 17) X dJ4_grow_4 (c2.1) rfl (rfl) ?_
  refine J.istore2 X dJ4_grow_5 ?_
  refine J.iload2 X dJ4_grow_6 ?_
  refine J.bipush (v := nI 64) X dJ4_grow_7 (by decide) ?_
  refine J.icmp_geN (tgt := 18) X dJ4_grow_9 (by decide) (by omega) (by omega) (fun q9 => absurd q9 (by omega)) (fun _ => ?_)
  refine J.iload2 X dJ4_grow_12 ?_
  refine J.iconst (v := nI 2) X dJ4_grow_13 (by decide) ?_
  refine J.iaddN X dJ4_grow_14 ?_
  refine J.goto (tgt := 21) X dJ4_grow_15 (by decide) ?_
  refine J.istore4 X dJ4_grow_21 ?_
  refine J.iload4 X dJ4_grow_23 ?_
  refine J.iload1 X dJ4_grow_25 ?_
  refine J.icmp_ltN (tgt := 41) X dJ4_grow_26 (by decide) (by omega) (by omega) (fun q9 => absurd q9 (by omega)) (fun _ => ?_)
  refine J.iload2 X dJ4_grow_29 ?_
  refine J.iload4 X dJ4_grow_30 ?_
  refine J.iaddN X dJ4_grow_32 ?_
  refine J.dup X dJ4_grow_33 ?_
  refine J.istore3 X dJ4_grow_34 ?_
  refine J.ldc (v := nI 2147483639) X dJ4_grow_35 q1948 ?_
  refine J.isub X dJ4_grow_37 ?_
  refine J.if_le (tgt := 49) X dJ4_grow_38 (by decide) (fun _ => ?_) (fun q9 => absurd (by decide) q9)
  refine J.aload0 X dJ4_grow_49 ?_
  refine J.aload0 X dJ4_grow_50 ?_
  refine J.getf X dJ4_grow_51 fl_J4_3_J4 (c1.1) rfl ?_
  refine J.iload3 X dJ4_grow_54 ?_
  refine J.callSa X dJ4_grow_55 lk_J4_14 ce_J24_copyOf_2 (ar_copyOf2 F c2.1 hke hr (t := t)) (by decide) rfl (fun r h' e _ => ?_)
  obtain ⟨rfl, rfl⟩ := e
  have hne : d ≠ hnew hE := hget_ne_new c1.1
  have d1 := c1.push t (jAR K 5 36 (fun i => if i < 17 then f i else none))
  have e1 := hc.new hE t (jAR K 5 36 (fun i => if i < 17 then f i else none))
  have f1 : Fr (fun x => x = t) hE (hpush hE t (jAR K 5 36 (fun i => if i < 17 then f i else none))) := Fr.push _ _ _ _
  have r1 : hres (hpush hE t (jAR K 5 36 (fun i => if i < 17 then f i else none))) = hres hE + 44 := hres_push _ _ _
  generalize hpush hE t (jAR K 5 36 (fun i => if i < 17 then f i else none)) = h1 at d1 e1 f1 r1
  generalize hnew hE = es at hne e1
  refine J.dup_x1 X dJ4_grow_58 ?_
  refine J.putf X dJ4_grow_59 (pl_J4_3_J4 _) (d1.1) (Nat.le_of_ble_eq_true rfl) (rfl) (rfl) ?_
  have d2 := d1.same (jO 14 [.ref es, .int (nI hd), .int (nI hd)])
  have e2 := e1.ne (jO 14 [.ref es, .int (nI hd), .int (nI hd)]) hne
  have f2 : Fr (fun x => x = t) h1 (hset h1 d (jO 14 [.ref es, .int (nI hd), .int (nI hd)])) := Fr.set d1 rfl
  have r2 : hres (hset h1 d (jO 14 [.ref es, .int (nI hd), .int (nI hd)])) = hres h1 := by refine hres_setS d1 ?_; rfl
  show J M (hset h1 d (jO 14 [.ref es, .int (nI hd), .int (nI hd)])) _ _ _
  generalize hset h1 d (jO 14 [.ref es, .int (nI hd), .int (nI hd)]) = h2 at d2 e2 f2 r2
  refine J.astore5 X dJ4_grow_62 ?_
  refine J.aload0 X dJ4_grow_64 ?_
  refine J.getf X dJ4_grow_65 fl_J4_20_J4 (d2.1) rfl ?_
  refine J.aload0 X dJ4_grow_68 ?_
  refine J.getf X dJ4_grow_69 fl_J4_24_J4 (d2.1) rfl ?_
  refine J.icmp_ltN (tgt := 96) X dJ4_grow_72 (by decide) (by omega) (by omega) (fun q9 => absurd q9 (by omega)) (fun _ => ?_)
  refine J.aload0 X dJ4_grow_75 ?_
  refine J.getf X dJ4_grow_76 fl_J4_20_J4 (d2.1) rfl ?_
  refine J.aload0 X dJ4_grow_79 ?_
  refine J.getf X dJ4_grow_80 fl_J4_24_J4 (d2.1) rfl ?_
  refine J.icmp_neN (tgt := 164) X dJ4_grow_83 (by decide) (by omega) (by omega) (fun q9 => absurd q9 (by omega)) (fun _ => ?_)
  refine J.aload5 X dJ4_grow_86 ?_
  refine J.aload0 X dJ4_grow_88 ?_
  refine J.getf X dJ4_grow_89 fl_J4_24_J4 (d2.1) rfl ?_
  refine J.aald X dJ4_grow_92 (e2.1) rfl (rfl) ((by omega : hd < 36)) ?_
  refine J.topr (y := some y0) (by rw [if_pos hh]; exact hy0) ?_
  refine J.ifnull (tgt := 164) X dJ4_grow_93 (by decide) (fun q => absurd q (by simp)) (fun _ _ => ?_)
  refine J.iload3 X dJ4_grow_96 ?_
  refine J.iload2 X dJ4_grow_97 ?_
  refine J.isubN X dJ4_grow_98 (by omega) ?_
  refine J.istore6 X dJ4_grow_99 ?_
  refine J.aload5 X dJ4_grow_101 ?_
  refine J.aload0 X dJ4_grow_103 ?_
  refine J.getf X dJ4_grow_104 fl_J4_24_J4 (d2.1) rfl ?_
  refine J.aload5 X dJ4_grow_107 ?_
  refine J.aload0 X dJ4_grow_109 ?_
  refine J.getf X dJ4_grow_110 fl_J4_24_J4 (d2.1) rfl ?_
  refine J.iload6 X dJ4_grow_113 ?_
  refine J.iaddN X dJ4_grow_115 ?_
  refine J.at (pc' := 116) rfl ?_
  refine J.iload2 X dJ4_grow_116 ?_
  refine J.aload0 X dJ4_grow_117 ?_
  refine J.getf X dJ4_grow_118 fl_J4_24_J4 (d2.1) rfl ?_
  refine J.isubN X dJ4_grow_121 (by omega) ?_
  refine J.copyQ (t0 := 5) (t1 := 5) (n := 17 - hd) (sp := hd) (dp := hd + 19) X dJ4_grow_122 q1292 e2.1 e2.1 rfl rfl jcl_8 (Or.inr q3041) (fun i hi y hy => (by
    rw [if_pos (by omega)] at hy
    obtain ⟨k, z⟩ := hkK (hd + i) (by omega) y hy
    exact ⟨_, ((z.fr f1 (fun q => ht1 q.symm)).fr f2 (fun q => ht1 q.symm)).2.1⟩)) (by omega) (by omega) (by decide) (by decide) (by decide) ?_
  generalize eC : va_cpy (fun i => if i < 17 then f i else none) (fun i => if i < 17 then f i else none) hd (hd + 19) (17 - hd) = C
  have d3 := d2.ne (jAR K 5 36 C) (Ne.symm hne)
  have e3 := e2.same (jAR K 5 36 C)
  have f3 : Fr (fun x => x = t) h2 (hset h2 es (jAR K 5 36 C)) := Fr.set e2 rfl
  have r3 : hres (hset h2 es (jAR K 5 36 C)) = hres h2 := by refine hres_setS e2 ?_; rfl
  generalize hset h2 es (jAR K 5 36 C) = h3 at d3 e3 f3 r3
  refine J.aload0 X dJ4_grow_125 ?_
  refine J.getf X dJ4_grow_126 fl_J4_24_J4 (d3.1) rfl ?_
  refine J.istore7 X dJ4_grow_129 ?_
  refine J.aload0 X dJ4_grow_131 ?_
  refine J.dup X dJ4_grow_132 ?_
  refine J.getf X dJ4_grow_133 fl_J4_24_J4 (d3.1) rfl ?_
  refine J.iload6 X dJ4_grow_136 ?_
  refine J.iaddN X dJ4_grow_138 ?_
  refine J.dup_x1 X dJ4_grow_139 ?_
  refine J.putf X dJ4_grow_140 (pl_J4_24_J4 _) (d3.1) (Nat.le_of_ble_eq_true rfl) (rfl) (rfl) ?_
  have d4 := d3.same (jO 14 [.ref es, .int (nI (hd + 19)), .int (nI hd)])
  have e4 := e3.ne (jO 14 [.ref es, .int (nI (hd + 19)), .int (nI hd)]) hne
  have f4 : Fr (fun x => x = t) h3 (hset h3 d (jO 14 [.ref es, .int (nI (hd + 19)), .int (nI hd)])) := Fr.set d3 rfl
  have r4 : hres (hset h3 d (jO 14 [.ref es, .int (nI (hd + 19)), .int (nI hd)])) = hres h3 := by refine hres_setS d3 ?_; rfl
  show J M (hset h3 d (jO 14 [.ref es, .int (nI (hd + 19)), .int (nI hd)])) _ _ _
  generalize hset h3 d (jO 14 [.ref es, .int (nI (hd + 19)), .int (nI hd)]) = h4 at d4 e4 f4 r4
  have loop : ∀ (n i : Nat) (h : JIH) (G : Nat → Option Nat), i + n = hd + 19 → hc h t d (jO 14 [.ref es, .int (nI (hd + 19)), .int (nI hd)]) → hc h t es (jAR K 5 36 G) → (∀ j, ¬ (hd ≤ j ∧ j < hd + 19) → G j = C j) → hd ≤ i → Fr (fun x => x = t) hE h → hres h = hres hE + 44 → J M h 145 [some (.ref d), some (.int (nI 1)), some (.int (nI 17)), some (.int (nI 36)), some (.int (nI 19)), some (.ref es), some (.int (nI 19)), some (.int (nI i)), some (.int (nI (hd + 19)))] [] := by
    intro n
    induction n with
    | zero =>
      intro i h G hi d9 e9 hG hi0 f9 r9
      obtain rfl : i = hd + 19 := by omega
      refine J.iload7 X dJ4_grow_145 ?_
      refine J.iload8 X dJ4_grow_147 ?_
      refine J.icmp_geN (tgt := 164) X dJ4_grow_149 (by decide) (by omega) (by omega) (fun _ => ?_) (fun q9 => absurd q9 (by omega))
      refine J.vreturn X dJ4_grow_164 (jRv.of ?_)
      refine ⟨⟨es, 36, hd + 19, G, ?_, e9, Or.inr rfl, by omega, by omega, fun m hm => ?_, fun p hp => (hk p hp).fr f9 (fun q => ht1 q.symm)⟩, f9, r9⟩
      · rw [hl, show (hd + 19 + 17) % 36 = hd by omega]; exact d9
      · rw [hl] at hm
        rw [hG _ (by omega), ← hf m (by omega), ← eC]
        show (if hd + 19 ≤ (hd + 19 + m) % 36 ∧ (hd + 19 + m) % 36 < hd + 19 + (17 - hd) then (if hd + ((hd + 19 + m) % 36 - (hd + 19)) < 17 then f (hd + ((hd + 19 + m) % 36 - (hd + 19))) else none) else (if (hd + 19 + m) % 36 < 17 then f ((hd + 19 + m) % 36) else none)) = _
        by_cases q : hd + m < 17
        · rw [if_pos (by omega), if_pos (by omega)]
          congr 1; omega
        · rw [if_neg (by omega), if_pos (by omega)]
          congr 1; omega
    | succ n ih =>
      intro i h G hi d9 e9 hG hi0 f9 r9
      refine J.iload7 X dJ4_grow_145 ?_
      refine J.iload8 X dJ4_grow_147 ?_
      refine J.icmp_geN (tgt := 164) X dJ4_grow_149 (by decide) (by omega) (by omega) (fun q9 => absurd q9 (by omega)) (fun _ => ?_)
      refine J.aload5 X dJ4_grow_152 ?_
      refine J.iload7 X dJ4_grow_154 ?_
      refine J.aconst_null X dJ4_grow_156 ?_
      refine J.aastN (t := 5) (j := i) X dJ4_grow_157 e9.1 rfl rfl (by omega) ?_
      have d10 := d9.ne (jAR K 5 36 (va_up G i none)) (Ne.symm hne)
      have e10 := e9.same (jAR K 5 36 (va_up G i none))
      have f10 : Fr (fun x => x = t) h (hset h es (jAR K 5 36 (va_up G i none))) := Fr.set e9 rfl
      have r10 : hres (hset h es (jAR K 5 36 (va_up G i none))) = hres h := by refine hres_setS e9 ?_; rfl
      generalize hset h es (jAR K 5 36 (va_up G i none)) = h' at d10 e10 f10 r10
      refine J.iinc7N (d := 1) X dJ4_grow_158 (by decide) ?_
      refine J.goto (tgt := 145) X dJ4_grow_161 (by decide) ?_
      exact ih (i + 1) h' _ (by omega) d10 e10 (fun j hj => by rw [va_up_ne _ _ (by omega)]; exact hG j hj) (by omega) (f9.tr f10) (r10.trans r9)
  refine J.istore8 X dJ4_grow_143 ?_
  exact loop 19 hd h4 C rfl d4 e4 (fun _ _ => rfl) (Nat.le_refl _) (((f1.tr f2).tr f3).tr f4) (by rw [r4, r3, r2, r1])
