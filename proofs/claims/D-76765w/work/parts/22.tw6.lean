/-! the model: what is asked of it (2) -/
section JR
variable {M : JM} {K : JK} {l0 : Launch} {cc : ByteArray} {own : String} {nL : Nat} {ret : Option FieldType} {nm : String} {hh : List (Nat × Nat × Nat × Nat)} {lv : Nat} {h0 : JIH} {QR : JQR} {QX : JQX} {h : JIH} {pc : Nat} {ls : List (Option Value)} {st : List Value}
theorem J.aaldA {a t n j : Nat} {g : Nat → Nat} {i : Int32} {ty : FieldType} (X : JX M K l0 cc own nL ret nm hh lv h0 QR QX) (hd : decode cc pc = .ok (.aaload, 1)) (ha : hget h a = some (jAR K t n (fun i => some (g i)))) (ht : (jtys K)[t]? = some (K.2.1 t, .array ty)) (hi : i = nI j) (hj : j < n) (k : J M h (pc + 1) ls (.ref (g j) :: st)) (hn : n < 2147483648 := by first | decide | omega | assumption) : J M h pc ls (.int i :: .ref a :: st) := by
  obtain ⟨K1, h1, R1, X1, p, l, e, R, s, m, args, below, meth, c⟩ := M
  obtain ⟨⟨rfl, rfl, rfl, rfl, rfl⟩, hx, hb, hml, hown, hr, hlk, hts, F, hW, hR, hs0, hb0, hnm, htab⟩ := X
  intro H locs la hH hlo hla hg
  subst hi
  have hin := vp_in_nI hj hn
  have hcl : (nI j).toNatClampNeg = j := nI_clamp (by omega)
  have k' := k H locs la hH hlo hla hg
  have hat : H[a]? = some (arrV (K1.2.1 t) n (fun j => va_rf (some (g j)))) := hH.2.2.1 _ _ ha
  exact W.aald (v := .ref (g j)) (ty := .array ty) hx hb hat (((jK F hW).2 t _ ht).1 n (fun j => va_rf (some (g j)))) rfl (fun q => by cases q) (by show ¬ (nI j < 0 ∨ (arrV _ _ _).slots.size ≤ _); rw [arrV_size]; exact hin) (by show (arrV _ _ _).slots[_]? = _; rw [hcl, arrV_read _ _ hj]; rfl) rfl rfl hd k'
end JR
theorem ts_out {x : Int32} {m : Nat} (hm : m < 2147483648) (h : ¬ (nI 0 ≤ x ∧ x ≤ nI m)) : x.toInt < 0 ∨ (m : Int) < x.toInt := by
  rw [Int32.le_iff_toInt_le, Int32.le_iff_toInt_le, nI_toInt hm] at h
  have : (nI 0).toInt = 0 := by decide
  rw [this] at h
  omega
def ttold (g : Nat → Int32) (a : Int32) (r : Int32) : Prop := (¬ (nI 0 ≤ a ∧ a ≤ nI 13) ∧ r = -1) ∨ ∃ j, j ≤ 13 ∧ a = nI j ∧ r = if j < 4 then g (3200 + j) else if j < 8 then g (3204 + j - 3) else g (3209 + j - 8)
theorem tw_told {K : JK} {l : Launch} {hE : JIH} {A : Nat} {g sv kp go tx ac ky wt mn ts tz : Nat → Int32} {tp : Nat → Nat → Int64} {mv : Nat → Int64} {i0 i1 i2 i3 i4 i5 : Int32} (F : JF K) (T : TwR K hE A g sv kp go tx ac ky wt mn ts tz tp mv i0 i1 i2 i3 i4 i5) {a r : Int32} (hf : ttold g a r) :
    Ct K l yX5_told wX5_told 5 [.ref A, .int a] hE (jRi (fun r0 h' => r0 = r ∧ hE = h')) jNo := by
  refine st_X5_told (ls := [some (.ref A), some (.int a)]) F rfl (body := fun M X => ?_)
  have S := T.S
  refine J.iload1 X dX5_told_0 ?_
  refine J.iconst (v := nI 0) X dX5_told_1 (by decide) ?_
  refine J.bipush (v := nI 13) X dX5_told_2 (by decide) ?_
  refine J.callSi X dX5_told_4 lk_X5_54 ce_X5_in (tw_in F a 0 13) (by decide) rfl (fun r h' e _ => ?_)
  obtain ⟨rfl, rfl⟩ := e
  refine J.if_neB (tgt := 12) X dX5_told_7 (by decide) (fun c1 => ?_) (fun c1 => ?_)
  · skip
    rcases hf with ⟨e, -⟩ | ⟨j, hj, rfl, rfl⟩
    · exact absurd c1 e
    clear c1
    refine J.iload1 X dX5_told_12 ?_
    refine J.iconst (v := nI 4) X dX5_told_13 (by decide) ?_
    refine J.icmp_geN (tgt := 30) X dX5_told_14 (by decide) (by omega) (by omega) (fun c2 => ?_) (fun c2 => ?_)
    · skip
      refine J.iload1 X dX5_told_30 ?_
      refine J.bipush (v := nI 8) X dX5_told_31 (by decide) ?_
      refine J.icmp_geN (tgt := 51) X dX5_told_33 (by decide) (by omega) (by omega) (fun c3 => ?_) (fun c3 => ?_)
      · skip
        refine J.aload0 X dX5_told_51 ?_
        refine J.getf X dX5_told_52 fl_X5_11_X5 (S.o) rfl ?_
        refine J.sipush (v := nI 3209) X dX5_told_55 (by decide) ?_
        refine J.iload1 X dX5_told_58 ?_
        refine J.iaddN X dX5_told_59 ?_
        refine J.bipush (v := nI 8) X dX5_told_60 (by decide) ?_
        refine J.isubN X dX5_told_62 (by omega) ?_
        refine J.iald X dX5_told_63 (S.r_g) (rfl) (by omega) ?_
        refine J.zreturn X dX5_told_64 (rfl) (jRi.of ?_)
        exact ⟨by rw [if_neg (by omega), if_neg (by omega)], rfl⟩
      · skip
        refine J.aload0 X dX5_told_36 ?_
        refine J.getf X dX5_told_37 fl_X5_11_X5 (S.o) rfl ?_
        refine J.sipush (v := nI 3204) X dX5_told_40 (by decide) ?_
        refine J.iload1 X dX5_told_43 ?_
        refine J.iaddN X dX5_told_44 ?_
        refine J.iconst (v := nI 3) X dX5_told_45 (by decide) ?_
        refine J.isubN X dX5_told_46 (by omega) ?_
        refine J.iald X dX5_told_47 (S.r_g) (rfl) (by omega) ?_
        refine J.goto (tgt := 64) X dX5_told_48 (by decide) ?_
        refine J.zreturn X dX5_told_64 (rfl) (jRi.of ?_)
        exact ⟨by rw [if_neg (by omega), if_pos c3], rfl⟩
    · skip
      refine J.aload0 X dX5_told_17 ?_
      refine J.getf X dX5_told_18 fl_X5_11_X5 (S.o) rfl ?_
      refine J.sipush (v := nI 3200) X dX5_told_21 (by decide) ?_
      refine J.iload1 X dX5_told_24 ?_
      refine J.iaddN X dX5_told_25 ?_
      refine J.iald X dX5_told_26 (S.r_g) (rfl) (by omega) ?_
      refine J.goto (tgt := 64) X dX5_told_27 (by decide) ?_
      refine J.zreturn X dX5_told_64 (rfl) (jRi.of ?_)
      exact ⟨by rw [if_pos c2], rfl⟩
  · skip
    refine J.iconst (v := -1) X dX5_told_10 (by decide) ?_
    refine J.zreturn X dX5_told_11 (rfl) (jRi.of ?_)
    rcases hf with ⟨-, e⟩ | ⟨j, hj, rfl, -⟩
    · exact ⟨e.symm, rfl⟩
    · exact absurd (nat_in (by decide) hj) c1
def tof (g : Nat → Int32) (k j : Nat) : Int32 :=
  if j = 0 then nI (wh g k) else if j = 1 then (if wh g k = 0 then -5 else g (800 + k)) else if j = 2 then (if wh g k = 1 ∨ wh g k = 2 then g (1200 + k) else -5) else if j = 3 then (if wh g k = 1 ∨ wh g k = 2 then g (1600 + k) else -5)
  else if j = 4 then (if wh g k = 1 ∨ wh g k = 2 then g (2000 + k) else -5) else if j = 5 then (if wh g k = 1 ∨ wh g k = 2 then g (2400 + k) else -5) else (if wh g k = 0 then -5 else nI (tplace g k 400))
def tofAR (g : Nat → Int32) (s m a : Int32) (r : Int32) : Prop := (¬ (tkey s m ∧ nI 0 ≤ a ∧ a ≤ nI 6) ∧ r = -1) ∨ (tkey s m ∧ ∃ k j, k < 400 ∧ j ≤ 6 ∧ nI 100 * s + m = nI k ∧ a = nI j ∧ r = tof g k j)
theorem tw_of {K : JK} {l : Launch} {hE : JIH} {A : Nat} {g sv kp go tx ac ky wt mn ts tz : Nat → Int32} {tp : Nat → Nat → Int64} {mv : Nat → Int64} {i0 i1 i2 i3 i4 i5 : Int32} (F : JF K) (T : TwR K hE A g sv kp go tx ac ky wt mn ts tz tp mv i0 i1 i2 i3 i4 i5) (hw : WG g) {s m a r : Int32} (hf : tofAR g s m a r) :
    Ct K l yX5_of wX5_of 5 [.ref A, .int s, .int m, .int a] hE (jRi (fun r0 h' => r0 = r ∧ hE = h')) jNo := by
  refine st_X5_of (ls := [some (.ref A), some (.int s), some (.int m), some (.int a), none, none]) F rfl (body := fun M X => ?_)
  have S := T.S
  refine J.iload1 X dX5_of_0 ?_
  refine J.iload2 X dX5_of_1 ?_
  refine J.callSi X dX5_of_2 lk_X5_96 ce_X5_isKey (tw_isKey F s m) (by decide) rfl (fun r h' e _ => ?_)
  obtain ⟨rfl, rfl⟩ := e
  refine J.if_eqB (tgt := 18) X dX5_of_5 (by decide) (fun c1 => ?_) (fun c1 => ?_)
  · skip
    refine J.iconst (v := -1) X dX5_of_18 (by decide) ?_
    refine J.zreturn X dX5_of_19 (rfl) (jRi.of ?_)
    rcases hf with ⟨-, e⟩ | ⟨e, -⟩
    · exact ⟨e.symm, rfl⟩
    · exact absurd e c1
  · skip
    refine J.iload3 X dX5_of_8 ?_
    refine J.iconst (v := nI 0) X dX5_of_9 (by decide) ?_
    refine J.bipush (v := nI 6) X dX5_of_10 (by decide) ?_
    refine J.callSi X dX5_of_12 lk_X5_54 ce_X5_in (tw_in F a 0 6) (by decide) rfl (fun r h' e _ => ?_)
    obtain ⟨rfl, rfl⟩ := e
    refine J.if_neB (tgt := 20) X dX5_of_15 (by decide) (fun c2 => ?_) (fun c2 => ?_)
    · skip
      rcases hf with ⟨e, -⟩ | ⟨-, k, j, hk, hj, hkk, rfl, rfl⟩
      · exact absurd ⟨c1, c2⟩ e
      clear c2
      have hwk := (hw k hk).1
      refine J.bipush (v := nI 100) X dX5_of_20 (by decide) ?_
      refine J.iload1 X dX5_of_22 ?_
      refine J.imul X dX5_of_23 ?_
      refine J.iload2 X dX5_of_24 ?_
      refine J.iadd X dX5_of_25 ?_
      refine J.topi (y := nI (k)) (hkk) ?_
      refine J.istore4 X dX5_of_26 ?_
      refine J.aload0 X dX5_of_28 ?_
      refine J.getf X dX5_of_29 fl_X5_11_X5 (S.o) rfl ?_
      refine J.iconst (v := nI 0) X dX5_of_32 (by decide) ?_
      refine J.iload4 X dX5_of_33 ?_
      refine J.iadd0N X dX5_of_35 ?_
      refine J.iald X dX5_of_36 (S.r_g) (rfl) (by omega) ?_
      refine J.topi (y := nI (wh g k)) ((hw k hk).2) ?_
      refine J.istore5 X dX5_of_37 ?_
      refine J.iload3 X dX5_of_39 ?_
      rcases (show j = 0 ∨ j = 1 ∨ j = 2 ∨ j = 3 ∨ j = 4 ∨ j = 5 ∨ j = 6 by omega) with rfl | rfl | rfl | rfl | rfl | rfl | rfl
      · skip
        refine J.tsIn (off := 40) (tgt := 80) X dX5_of_40 (by decide) (by decide) (by decide) (by decide) ?_
        refine J.iload5 X dX5_of_80 ?_
        refine J.zreturn X dX5_of_82 (rfl) (jRi.of ?_)
        exact ⟨rfl, rfl⟩
      · skip
        refine J.tsIn (off := 43) (tgt := 83) X dX5_of_40 (by decide) (by decide) (by decide) (by decide) ?_
        refine J.iload5 X dX5_of_83 ?_
        refine J.if_neN (tgt := 93) X dX5_of_85 (by decide) (by omega) (fun c3 => ?_) (fun c3 => ?_)
        · skip
          refine J.aload0 X dX5_of_93 ?_
          refine J.getf X dX5_of_94 fl_X5_11_X5 (S.o) rfl ?_
          refine J.sipush (v := nI 800) X dX5_of_97 (by decide) ?_
          refine J.iload4 X dX5_of_100 ?_
          refine J.iaddN X dX5_of_102 ?_
          refine J.iald X dX5_of_103 (S.r_g) (rfl) (by omega) ?_
          refine J.zreturn X dX5_of_104 (rfl) (jRi.of ?_)
          exact ⟨(if_neg c3).symm, rfl⟩
        · skip
          refine J.bipush (v := -5) X dX5_of_88 (by decide) ?_
          refine J.goto (tgt := 104) X dX5_of_90 (by decide) ?_
          refine J.zreturn X dX5_of_104 (rfl) (jRi.of ?_)
          exact ⟨(if_pos c3).symm, rfl⟩
      · skip
        refine J.tsIn (off := 65) (tgt := 105) X dX5_of_40 (by decide) (by decide) (by decide) (by decide) ?_
        refine J.aload0 X dX5_of_105 ?_
        refine J.iload4 X dX5_of_106 ?_
        refine J.callVi X dX5_of_108 lk_X5_89_X5 ce_X5_isThing (tw_isThing F S.1 hw hk) (by decide) rfl (S.o) rfl (fun r h' e _ => ?_)
        obtain ⟨rfl, rfl⟩ := e
        refine J.if_eqB (tgt := 128) X dX5_of_111 (by decide) (fun c3 => ?_) (fun c3 => ?_)
        · skip
          refine J.bipush (v := -5) X dX5_of_128 (by decide) ?_
          refine J.zreturn X dX5_of_130 (rfl) (jRi.of ?_)
          exact ⟨(if_neg c3).symm, rfl⟩
        · skip
          refine J.aload0 X dX5_of_114 ?_
          refine J.getf X dX5_of_115 fl_X5_11_X5 (S.o) rfl ?_
          refine J.sipush (v := nI 1200) X dX5_of_118 (by decide) ?_
          refine J.iload4 X dX5_of_121 ?_
          refine J.iaddN X dX5_of_123 ?_
          refine J.iald X dX5_of_124 (S.r_g) (rfl) (by omega) ?_
          refine J.goto (tgt := 130) X dX5_of_125 (by decide) ?_
          refine J.zreturn X dX5_of_130 (rfl) (jRi.of ?_)
          exact ⟨(if_pos c3).symm, rfl⟩
      · skip
        refine J.tsIn (off := 91) (tgt := 131) X dX5_of_40 (by decide) (by decide) (by decide) (by decide) ?_
        refine J.aload0 X dX5_of_131 ?_
        refine J.iload4 X dX5_of_132 ?_
        refine J.callVi X dX5_of_134 lk_X5_89_X5 ce_X5_isThing (tw_isThing F S.1 hw hk) (by decide) rfl (S.o) rfl (fun r h' e _ => ?_)
        obtain ⟨rfl, rfl⟩ := e
        refine J.if_eqB (tgt := 154) X dX5_of_137 (by decide) (fun c3 => ?_) (fun c3 => ?_)
        · skip
          refine J.bipush (v := -5) X dX5_of_154 (by decide) ?_
          refine J.zreturn X dX5_of_156 (rfl) (jRi.of ?_)
          exact ⟨(if_neg c3).symm, rfl⟩
        · skip
          refine J.aload0 X dX5_of_140 ?_
          refine J.getf X dX5_of_141 fl_X5_11_X5 (S.o) rfl ?_
          refine J.sipush (v := nI 1600) X dX5_of_144 (by decide) ?_
          refine J.iload4 X dX5_of_147 ?_
          refine J.iaddN X dX5_of_149 ?_
          refine J.iald X dX5_of_150 (S.r_g) (rfl) (by omega) ?_
          refine J.goto (tgt := 156) X dX5_of_151 (by decide) ?_
          refine J.zreturn X dX5_of_156 (rfl) (jRi.of ?_)
          exact ⟨(if_pos c3).symm, rfl⟩
      · skip
        refine J.tsIn (off := 117) (tgt := 157) X dX5_of_40 (by decide) (by decide) (by decide) (by decide) ?_
        refine J.aload0 X dX5_of_157 ?_
        refine J.iload4 X dX5_of_158 ?_
        refine J.callVi X dX5_of_160 lk_X5_89_X5 ce_X5_isThing (tw_isThing F S.1 hw hk) (by decide) rfl (S.o) rfl (fun r h' e _ => ?_)
        obtain ⟨rfl, rfl⟩ := e
        refine J.if_eqB (tgt := 180) X dX5_of_163 (by decide) (fun c3 => ?_) (fun c3 => ?_)
        · skip
          refine J.bipush (v := -5) X dX5_of_180 (by decide) ?_
          refine J.zreturn X dX5_of_182 (rfl) (jRi.of ?_)
          exact ⟨(if_neg c3).symm, rfl⟩
        · skip
          refine J.aload0 X dX5_of_166 ?_
          refine J.getf X dX5_of_167 fl_X5_11_X5 (S.o) rfl ?_
          refine J.sipush (v := nI 2000) X dX5_of_170 (by decide) ?_
          refine J.iload4 X dX5_of_173 ?_
          refine J.iaddN X dX5_of_175 ?_
          refine J.iald X dX5_of_176 (S.r_g) (rfl) (by omega) ?_
          refine J.goto (tgt := 182) X dX5_of_177 (by decide) ?_
          refine J.zreturn X dX5_of_182 (rfl) (jRi.of ?_)
          exact ⟨(if_pos c3).symm, rfl⟩
      · skip
        refine J.tsIn (off := 143) (tgt := 183) X dX5_of_40 (by decide) (by decide) (by decide) (by decide) ?_
        refine J.aload0 X dX5_of_183 ?_
        refine J.iload4 X dX5_of_184 ?_
        refine J.callVi X dX5_of_186 lk_X5_89_X5 ce_X5_isThing (tw_isThing F S.1 hw hk) (by decide) rfl (S.o) rfl (fun r h' e _ => ?_)
        obtain ⟨rfl, rfl⟩ := e
        refine J.if_eqB (tgt := 206) X dX5_of_189 (by decide) (fun c3 => ?_) (fun c3 => ?_)
        · skip
          refine J.bipush (v := -5) X dX5_of_206 (by decide) ?_
          refine J.zreturn X dX5_of_208 (rfl) (jRi.of ?_)
          exact ⟨(if_neg c3).symm, rfl⟩
        · skip
          refine J.aload0 X dX5_of_192 ?_
          refine J.getf X dX5_of_193 fl_X5_11_X5 (S.o) rfl ?_
          refine J.sipush (v := nI 2400) X dX5_of_196 (by decide) ?_
          refine J.iload4 X dX5_of_199 ?_
          refine J.iaddN X dX5_of_201 ?_
          refine J.iald X dX5_of_202 (S.r_g) (rfl) (by omega) ?_
          refine J.goto (tgt := 208) X dX5_of_203 (by decide) ?_
          refine J.zreturn X dX5_of_208 (rfl) (jRi.of ?_)
          exact ⟨(if_pos c3).symm, rfl⟩
      · skip
        refine J.tsOut (tgt := 209) X dX5_of_40 (by decide) (by decide) ?_
        refine J.iload5 X dX5_of_209 ?_
        refine J.if_neN (tgt := 219) X dX5_of_211 (by decide) (by omega) (fun c3 => ?_) (fun c3 => ?_)
        · skip
          refine J.aload0 X dX5_of_219 ?_
          refine J.iload4 X dX5_of_220 ?_
          refine J.callVi X dX5_of_222 lk_X5_113_X5 ce_X5_placeOf (tw_placeOf F S.1 hw hk) (by decide) rfl (S.o) rfl (fun r h' e _ => ?_)
          obtain ⟨rfl, rfl⟩ := e
          refine J.zreturn X dX5_of_225 (rfl) (jRi.of ?_)
          exact ⟨(if_neg c3).symm, rfl⟩
        · skip
          refine J.bipush (v := -5) X dX5_of_214 (by decide) ?_
          refine J.goto (tgt := 225) X dX5_of_216 (by decide) ?_
          refine J.zreturn X dX5_of_225 (rfl) (jRi.of ?_)
          exact ⟨(if_pos c3).symm, rfl⟩
    · skip
      refine J.iconst (v := -1) X dX5_of_18 (by decide) ?_
      refine J.zreturn X dX5_of_19 (rfl) (jRi.of ?_)
      rcases hf with ⟨-, e⟩ | ⟨-, k, j, hk, hj, hkk, rfl, -⟩
      · exact ⟨e.symm, rfl⟩
      · exact absurd (nat_in (by decide) hj) c2
def tkeyAR (g : Nat → Int32) (q p : Int32) (r : Int32) : Prop := (¬ ((nI 1 ≤ q ∧ q ≤ nI 4) ∧ ¬ p < 0) ∧ r = -1) ∨ (¬ p < 0 ∧ ∃ j, 1 ≤ j ∧ j ≤ 4 ∧ q = nI j ∧ r = tkeyAt g j p 400 0)
theorem tw_key {K : JK} {l : Launch} {hE : JIH} {A : Nat} {g sv kp go tx ac ky wt mn ts tz : Nat → Int32} {tp : Nat → Nat → Int64} {mv : Nat → Int64} {i0 i1 i2 i3 i4 i5 : Int32} (F : JF K) (T : TwR K hE A g sv kp go tx ac ky wt mn ts tz tp mv i0 i1 i2 i3 i4 i5) (hw : WG g) {q p r : Int32} (hf : tkeyAR g q p r) :
    Ct K l yX5_key wX5_key 5 [.ref A, .int q, .int p] hE (jRi (fun r0 h' => r0 = r ∧ hE = h')) jNo := by
  refine st_X5_key (ls := [some (.ref A), some (.int q), some (.int p)]) F rfl (body := fun M X => ?_)
  have S := T.S
  refine J.iload1 X dX5_key_0 ?_
  refine J.iconst (v := nI 1) X dX5_key_1 (by decide) ?_
  refine J.iconst (v := nI 4) X dX5_key_2 (by decide) ?_
  refine J.callSi X dX5_key_3 lk_X5_54 ce_X5_in (tw_in F q 1 4) (by decide) rfl (fun r h' e _ => ?_)
  obtain ⟨rfl, rfl⟩ := e
  refine J.if_eqB (tgt := 22) X dX5_key_6 (by decide) (fun c1 => ?_) (fun c1 => ?_)
  · skip
    refine J.iconst (v := -1) X dX5_key_22 (by decide) ?_
    refine J.zreturn X dX5_key_23 (rfl) (jRi.of ?_)
    rcases hf with ⟨-, e⟩ | ⟨-, j, h1, h2, rfl, -⟩
    · exact ⟨e.symm, rfl⟩
    · exact absurd ⟨nI_le (a := 1) (b := j) h1 (by omega), nI_le (a := j) (b := 4) h2 (by decide)⟩ c1
  · skip
    refine J.iload2 X dX5_key_9 ?_
    refine J.if_lt (tgt := 22) X dX5_key_10 (by decide) (fun c2 => ?_) (fun c2 => ?_)
    · skip
      refine J.iconst (v := -1) X dX5_key_22 (by decide) ?_
      refine J.zreturn X dX5_key_23 (rfl) (jRi.of ?_)
      rcases hf with ⟨-, e⟩ | ⟨e, -⟩
      · exact ⟨e.symm, rfl⟩
      · exact absurd c2 e
    · skip
      rcases hf with ⟨e, -⟩ | ⟨-, j, h1, h2, rfl, rfl⟩
      · exact absurd ⟨c1, c2⟩ e
      refine J.aload0 X dX5_key_13 ?_
      refine J.iload1 X dX5_key_14 ?_
      refine J.iload2 X dX5_key_15 ?_
      refine J.callVi X dX5_key_16 lk_X5_116_X5 ce_X5_keyAt (tw_keyAt F S.1 hw h2 p) (by decide) rfl (S.o) rfl (fun r h' e _ => ?_)
      obtain ⟨rfl, rfl⟩ := e
      refine J.goto (tgt := 23) X dX5_key_19 (by decide) ?_
      refine J.zreturn X dX5_key_23 (rfl) (jRi.of ?_)
      exact ⟨rfl, rfl⟩
def tgoneAR (g : Nat → Int32) (k : Int32) (r : Int32) : Prop := (k < 0 ∧ r = -1) ∨ (¬ k < 0 ∧ (nI 20 ≤ k ∨ g 3214 ≤ k) ∧ r = -5) ∨ (∃ j, j < 20 ∧ k = nI j ∧ k < g 3214 ∧ r = g (3216 + j))
theorem tw_gone {K : JK} {l : Launch} {hE : JIH} {A : Nat} {g sv kp go tx ac ky wt mn ts tz : Nat → Int32} {tp : Nat → Nat → Int64} {mv : Nat → Int64} {i0 i1 i2 i3 i4 i5 : Int32} (F : JF K) (T : TwR K hE A g sv kp go tx ac ky wt mn ts tz tp mv i0 i1 i2 i3 i4 i5) {k r : Int32} (hf : tgoneAR g k r) :
    Ct K l yX5_gone wX5_gone 5 [.ref A, .int k] hE (jRi (fun r0 h' => r0 = r ∧ hE = h')) jNo := by
  refine st_X5_gone (ls := [some (.ref A), some (.int k)]) F rfl (body := fun M X => ?_)
  have S := T.S
  refine J.iload1 X dX5_gone_0 ?_
  refine J.if_ge (tgt := 6) X dX5_gone_1 (by decide) (fun c1 => ?_) (fun c1 => ?_)
  · skip
    rcases hf with ⟨e, -⟩ | ⟨-, e, rfl⟩ | ⟨j, hj, rfl, e, rfl⟩
    · exact absurd e (Int32.not_lt.mpr c1)
    · skip
      refine J.iload1 X dX5_gone_6 ?_
      refine J.bipush (v := nI 20) X dX5_gone_7 (by decide) ?_
      refine J.icmp_ge (tgt := 37) X dX5_gone_9 (by decide) (fun c2 => ?_) (fun c2 => ?_)
      · skip
        refine J.bipush (v := -5) X dX5_gone_37 (by decide) ?_
        refine J.zreturn X dX5_gone_39 (rfl) (jRi.of ?_)
        exact ⟨rfl, rfl⟩
      · skip
        refine J.iload1 X dX5_gone_12 ?_
        refine J.aload0 X dX5_gone_13 ?_
        refine J.getf X dX5_gone_14 fl_X5_11_X5 (S.o) rfl ?_
        refine J.sipush (v := nI 3214) X dX5_gone_17 (by decide) ?_
        refine J.iald X dX5_gone_20 (S.r_g) (rfl) (by omega) ?_
        refine J.icmp_ge (tgt := 37) X dX5_gone_21 (by decide) (fun c3 => ?_) (fun c3 => ?_)
        · skip
          refine J.bipush (v := -5) X dX5_gone_37 (by decide) ?_
          refine J.zreturn X dX5_gone_39 (rfl) (jRi.of ?_)
          exact ⟨rfl, rfl⟩
        · skip
          exact absurd e (fun z => z.elim c2 c3)
    · skip
      refine J.iload1 X dX5_gone_6 ?_
      refine J.bipush (v := nI 20) X dX5_gone_7 (by decide) ?_
      refine J.icmp_geN (tgt := 37) X dX5_gone_9 (by decide) (by omega) (by omega) (fun q9 => absurd q9 (by omega)) (fun _ => ?_)
      refine J.iload1 X dX5_gone_12 ?_
      refine J.aload0 X dX5_gone_13 ?_
      refine J.getf X dX5_gone_14 fl_X5_11_X5 (S.o) rfl ?_
      refine J.sipush (v := nI 3214) X dX5_gone_17 (by decide) ?_
      refine J.iald X dX5_gone_20 (S.r_g) (rfl) (by omega) ?_
      refine J.icmp_ge (tgt := 37) X dX5_gone_21 (by decide) (fun c3 => ?_) (fun c3 => ?_)
      · skip
        exact absurd e (Int32.not_lt.mpr c3)
      · skip
        refine J.aload0 X dX5_gone_24 ?_
        refine J.getf X dX5_gone_25 fl_X5_11_X5 (S.o) rfl ?_
        refine J.sipush (v := nI 3216) X dX5_gone_28 (by decide) ?_
        refine J.iload1 X dX5_gone_31 ?_
        refine J.iaddN X dX5_gone_32 ?_
        refine J.iald X dX5_gone_33 (S.r_g) (rfl) (by omega) ?_
        refine J.goto (tgt := 39) X dX5_gone_34 (by decide) ?_
        refine J.zreturn X dX5_gone_39 (rfl) (jRi.of ?_)
        exact ⟨rfl, rfl⟩
  · skip
    refine J.iconst (v := -1) X dX5_gone_4 (by decide) ?_
    refine J.zreturn X dX5_gone_5 (rfl) (jRi.of ?_)
    rcases hf with ⟨-, e⟩ | ⟨e, -⟩ | ⟨j, hj, rfl, -⟩
    · exact ⟨e.symm, rfl⟩
    · exact absurd (Int32.not_lt.mp e) c1
    · exact absurd (nI_pos' (by omega)) c1
def tbookAR (g : Nat → Int32) (s m q : Int32) (r : Int32) (g' : Nat → Int32) : Prop :=
  (s = -1 ∧ r = 0 ∧ g' = upd g 3236 (nI 0)) ∨ (s ≠ -1 ∧ ¬ tkey s m ∧ r = -1 ∧ g' = g) ∨ (s ≠ -1 ∧ tkey s m ∧ ¬ (nI 0 ≤ q ∧ q ≤ nI 4) ∧ r = -2 ∧ g' = g) ∨
  (s ≠ -1 ∧ tkey s m ∧ (nI 0 ≤ q ∧ q ≤ nI 4) ∧ ((g 3236 = nI 8 ∧ r = -4 ∧ g' = g) ∨ ∃ b, b < 8 ∧ g 3236 = nI b ∧ r = nI (b + 1) ∧ g' = upd (upd (upd g (3237 + 2 * b) (nI 100 * s + m)) (3237 + 2 * b + 1) q) 3236 (nI (b + 1))))
theorem tw_book {K : JK} {l : Launch} {hE : JIH} {A : Nat} {g sv kp go tx ac ky wt mn ts tz : Nat → Int32} {tp : Nat → Nat → Int64} {mv : Nat → Int64} {i0 i1 i2 i3 i4 i5 : Int32} (F : JF K) (T : TwR K hE A g sv kp go tx ac ky wt mn ts tz tp mv i0 i1 i2 i3 i4 i5) {s m q r : Int32} {g' : Nat → Int32} (hf : tbookAR g s m q r g') :
    Ct K l yX5_book wX5_book 5 [.ref A, .int s, .int m, .int q] hE (jRi (fun r0 h' => r0 = r ∧ TwS K hE h' A (g') sv kp go tx ac ky wt mn ts tz tp mv i0 i1 i2 i3 i4 i5)) jNo := by
  refine st_X5_book (ls := [some (.ref A), some (.int s), some (.int m), some (.int q)]) F rfl (body := fun M X => ?_)
  have S := T.S
  refine J.iload1 X dX5_book_0 ?_
  refine J.iconst (v := -1) X dX5_book_1 (by decide) ?_
  refine J.icmp_ne (tgt := 16) X dX5_book_2 (by decide) (fun c1 => ?_) (fun c1 => ?_)
  · skip
    rcases hf with ⟨e, -⟩ | hf
    · exact absurd e c1
    refine J.iload1 X dX5_book_16 ?_
    refine J.iload2 X dX5_book_17 ?_
    refine J.callSi X dX5_book_18 lk_X5_96 ce_X5_isKey (tw_isKey F s m) (by decide) rfl (fun r h' e _ => ?_)
    obtain ⟨rfl, rfl⟩ := e
    refine J.if_neB (tgt := 26) X dX5_book_21 (by decide) (fun c2 => ?_) (fun c2 => ?_)
    · skip
      rcases hf with ⟨-, e, -⟩ | hf
      · exact absurd c2 e
      refine J.iload3 X dX5_book_26 ?_
      refine J.iconst (v := nI 0) X dX5_book_27 (by decide) ?_
      refine J.iconst (v := nI 4) X dX5_book_28 (by decide) ?_
      refine J.callSi X dX5_book_29 lk_X5_54 ce_X5_in (tw_in F q 0 4) (by decide) rfl (fun r h' e _ => ?_)
      obtain ⟨rfl, rfl⟩ := e
      refine J.if_neB (tgt := 38) X dX5_book_32 (by decide) (fun c3 => ?_) (fun c3 => ?_)
      · skip
        rcases hf with ⟨-, -, e, -⟩ | ⟨-, -, -, hf⟩
        · exact absurd c3 e
        rcases hf with ⟨e, rfl, rfl⟩ | ⟨b, hb, e, rfl, rfl⟩
        · skip
          refine J.aload0 X dX5_book_38 ?_
          refine J.getf X dX5_book_39 fl_X5_11_X5 (S.o) rfl ?_
          refine J.sipush (v := nI 3236) X dX5_book_42 (by decide) ?_
          refine J.iald X dX5_book_45 (S.r_g) (rfl) (by omega) ?_
          refine J.bipush (v := nI 8) X dX5_book_46 (by decide) ?_
          refine J.icmp_ne (tgt := 54) X dX5_book_48 (by decide) (fun c4 => ?_) (fun c4 => ?_)
          · skip
            exact absurd e c4
          · skip
            refine J.bipush (v := -4) X dX5_book_51 (by decide) ?_
            refine J.zreturn X dX5_book_53 (rfl) (jRi.of ?_)
            exact ⟨rfl, S⟩
        · refine J.aload0 X dX5_book_38 ?_
          refine J.getf X dX5_book_39 fl_X5_11_X5 (S.o) rfl ?_
          refine J.sipush (v := nI 3236) X dX5_book_42 (by decide) ?_
          refine J.iald X dX5_book_45 (S.r_g) (rfl) (by omega) ?_
          refine J.topi (y := nI (b)) (e) ?_
          refine J.bipush (v := nI 8) X dX5_book_46 (by decide) ?_
          refine J.icmp_neN (tgt := 54) X dX5_book_48 (by decide) (by omega) (by omega) (fun _ => ?_) (fun q9 => absurd q9 (by omega))
          refine J.aload0 X dX5_book_54 ?_
          refine J.getf X dX5_book_55 fl_X5_11_X5 (S.o) rfl ?_
          refine J.sipush (v := nI 3237) X dX5_book_58 (by decide) ?_
          refine J.iconst (v := nI 2) X dX5_book_61 (by decide) ?_
          refine J.aload0 X dX5_book_62 ?_
          refine J.getf X dX5_book_63 fl_X5_11_X5 (S.o) rfl ?_
          refine J.sipush (v := nI 3236) X dX5_book_66 (by decide) ?_
          refine J.iald X dX5_book_69 (S.r_g) (rfl) (by omega) ?_
          refine J.topi (y := nI (b)) (e) ?_
          refine J.imulN X dX5_book_70 ?_
          refine J.iaddN X dX5_book_71 ?_
          refine J.bipush (v := nI 100) X dX5_book_72 (by decide) ?_
          refine J.iload1 X dX5_book_74 ?_
          refine J.imul X dX5_book_75 ?_
          refine J.iload2 X dX5_book_76 ?_
          refine J.iadd X dX5_book_77 ?_
          refine J.tw_g X dX5_book_78 S (rfl) (by omega) (fun h S => ?_)
          refine J.aload0 X dX5_book_79 ?_
          refine J.getf X dX5_book_80 fl_X5_11_X5 (S.o) rfl ?_
          refine J.sipush (v := nI 3237) X dX5_book_83 (by decide) ?_
          refine J.iconst (v := nI 2) X dX5_book_86 (by decide) ?_
          refine J.aload0 X dX5_book_87 ?_
          refine J.getf X dX5_book_88 fl_X5_11_X5 (S.o) rfl ?_
          refine J.sipush (v := nI 3236) X dX5_book_91 (by decide) ?_
          refine J.iald X dX5_book_94 (S.r_g) (rfl) (by omega) ?_
          refine J.topi (y := nI (b)) (by rw [upd_at, if_neg (by omega)]; exact e) ?_
          refine J.imulN X dX5_book_95 ?_
          refine J.iaddN X dX5_book_96 ?_
          refine J.iconst (v := nI 1) X dX5_book_97 (by decide) ?_
          refine J.iaddN X dX5_book_98 ?_
          refine J.iload3 X dX5_book_99 ?_
          refine J.tw_g X dX5_book_100 S (rfl) (by omega) (fun h S => ?_)
          refine J.aload0 X dX5_book_101 ?_
          refine J.getf X dX5_book_102 fl_X5_11_X5 (S.o) rfl ?_
          refine J.sipush (v := nI 3236) X dX5_book_105 (by decide) ?_
          refine J.dup2 X dX5_book_108 ?_
          refine J.iald X dX5_book_109 (S.r_g) (rfl) (by omega) ?_
          refine J.topi (y := nI (b)) (by rw [upd_at, if_neg (by omega), upd_at, if_neg (by omega)]; exact e) ?_
          refine J.iconst (v := nI 1) X dX5_book_110 (by decide) ?_
          refine J.iaddN X dX5_book_111 ?_
          refine J.tw_g X dX5_book_112 S (rfl) (by omega) (fun h S => ?_)
          refine J.aload0 X dX5_book_113 ?_
          refine J.getf X dX5_book_114 fl_X5_11_X5 (S.o) rfl ?_
          refine J.sipush (v := nI 3236) X dX5_book_117 (by decide) ?_
          refine J.iald X dX5_book_120 (S.r_g) (rfl) (by omega) ?_
          refine J.zreturn X dX5_book_121 (rfl) (jRi.of ?_)
          exact ⟨by rw [upd_at, if_pos rfl], S⟩
      · skip
        rcases hf with ⟨-, -, -, rfl, rfl⟩ | ⟨-, -, e, -⟩
        · refine J.bipush (v := -2) X dX5_book_35 (by decide) ?_
          refine J.zreturn X dX5_book_37 (rfl) (jRi.of ?_)
          exact ⟨rfl, S⟩
        · exact absurd e c3
    · skip
      rcases hf with ⟨-, -, rfl, rfl⟩ | ⟨-, e, -⟩ | ⟨-, e, -⟩
      · refine J.iconst (v := -1) X dX5_book_24 (by decide) ?_
        refine J.zreturn X dX5_book_25 (rfl) (jRi.of ?_)
        exact ⟨rfl, S⟩
      · exact absurd e c2
      · exact absurd e c2
  · skip
    rcases hf with ⟨-, rfl, rfl⟩ | ⟨e, -⟩ | ⟨e, -⟩ | ⟨e, -⟩
    · refine J.aload0 X dX5_book_5 ?_
      refine J.getf X dX5_book_6 fl_X5_11_X5 (S.o) rfl ?_
      refine J.sipush (v := nI 3236) X dX5_book_9 (by decide) ?_
      refine J.iconst (v := nI 0) X dX5_book_12 (by decide) ?_
      refine J.tw_g X dX5_book_13 S (rfl) (by omega) (fun h S => ?_)
      refine J.iconst (v := nI 0) X dX5_book_14 (by decide) ?_
      refine J.zreturn X dX5_book_15 (rfl) (jRi.of ?_)
      exact ⟨rfl, S⟩
    · exact absurd c1 e
    · exact absurd c1 e
    · exact absurd c1 e
