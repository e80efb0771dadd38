/-! the model: shift, judge -/
theorem tw_shift0 {K : JK} {l : Launch} {hE : JIH} {A : Nat} (F : JF K) {t i o j n : Int32} (hf : ¬ ((nI 0 ≤ t ∧ t ≤ nI 5) ∧ (nI 0 ≤ o ∧ o ≤ nI 5))) :
    Ct K l yX5_shift wX5_shift 5 [.ref A, .int t, .int i, .int o, .int j, .int n] hE (jRi (fun r0 h' => r0 = -1 ∧ hE = h')) jNo := by
  refine st_X5_shift (ls := [some (.ref A), some (.int t), some (.int i), some (.int o), some (.int j), some (.int n), none]) F rfl (body := fun M X => ?_)
  refine J.iload1 X dX5_shift_0 ?_
  refine J.callSi X dX5_shift_1 lk_X5_161 ce_X5_isTape (tw_isTape F t) (by decide) rfl (fun r h' e _ => ?_)
  obtain ⟨rfl, rfl⟩ := e
  refine J.if_eqB (tgt := 14) X dX5_shift_4 (by decide) (fun c1 => ?_) (fun c1 => ?_)
  · skip
    refine J.iconst (v := -1) X dX5_shift_14 (by decide) ?_
    refine J.zreturn X dX5_shift_15 (rfl) (jRi.of ?_)
    exact ⟨rfl, rfl⟩
  · skip
    refine J.iload3 X dX5_shift_7 ?_
    refine J.callSi X dX5_shift_8 lk_X5_161 ce_X5_isTape (tw_isTape F o) (by decide) rfl (fun r h' e _ => ?_)
    obtain ⟨rfl, rfl⟩ := e
    refine J.if_neB (tgt := 16) X dX5_shift_11 (by decide) (fun q9 => absurd q9 (fun z => hf ⟨c1, z⟩)) (fun _ => ?_)
    refine J.iconst (v := -1) X dX5_shift_14 (by decide) ?_
    refine J.zreturn X dX5_shift_15 (rfl) (jRi.of ?_)
    exact ⟨rfl, rfl⟩
def tshOk (za zb : Nat) (i j n : Int32) : Prop := ¬ n < 0 ∧ ¬ i < 0 ∧ ¬ j < 0 ∧ n ≤ nI za ∧ n ≤ nI zb ∧ i ≤ nI za - n ∧ j ≤ nI zb - n
def tshiftAR (ts tz : Nat → Int32) (a b : Nat) (i j n r : Int32) : Prop := ((ts a < 0 ∨ ts b < 0) ∧ r = -11) ∨ (¬ ts a < 0 ∧ ¬ ts b < 0 ∧ ((ts a ≠ ts b ∧ r = -12) ∨ (ts a = ts b ∧ ∃ za zb, za ≤ 60 ∧ zb ≤ 60 ∧ tz a = nI za ∧ tz b = nI zb ∧ ¬ tshOk za zb i j n ∧ r = -13)))
theorem tw_shift1 {K : JK} {l : Launch} {hE : JIH} {A : Nat} {g sv kp go tx ac ky wt mn ts tz : Nat → Int32} {tp : Nat → Nat → Int64} {mv : Nat → Int64} {i0 i1 i2 i3 i4 i5 : Int32} (F : JF K) (T : TwR K hE A g sv kp go tx ac ky wt mn ts tz tp mv i0 i1 i2 i3 i4 i5) {a b : Nat} (ha : a ≤ 5) (hb : b ≤ 5) {i j n r : Int32} (hf : tshiftAR ts tz a b i j n r) :
    Ct K l yX5_shift wX5_shift 5 [.ref A, .int (nI a), .int i, .int (nI b), .int j, .int n] hE (jRi (fun r0 h' => r0 = r ∧ hE = h')) jNo := by
  refine st_X5_shift (ls := [some (.ref A), some (.int (nI a)), some (.int i), some (.int (nI b)), some (.int j), some (.int n), none]) F rfl (body := fun M X => ?_)
  have S := T.S
  refine J.iload1 X dX5_shift_0 ?_
  refine J.callSi X dX5_shift_1 lk_X5_161 ce_X5_isTape (tw_isTape F (nI a)) (by decide) rfl (fun r h' e _ => ?_)
  obtain ⟨rfl, rfl⟩ := e
  refine J.if_eqB (tgt := 14) X dX5_shift_4 (by decide) (fun q9 => absurd q9 (fun z => z (nat_in (by decide) ha))) (fun _ => ?_)
  refine J.iload3 X dX5_shift_7 ?_
  refine J.callSi X dX5_shift_8 lk_X5_161 ce_X5_isTape (tw_isTape F (nI b)) (by decide) rfl (fun r h' e _ => ?_)
  obtain ⟨rfl, rfl⟩ := e
  refine J.if_neB (tgt := 16) X dX5_shift_11 (by decide) (fun _ => ?_) (fun q9 => absurd q9 (fun z => z (nat_in (by decide) hb)))
  refine J.aload0 X dX5_shift_16 ?_
  refine J.getf X dX5_shift_17 fl_X5_39_X5 (S.o) rfl ?_
  refine J.iload1 X dX5_shift_20 ?_
  refine J.iald X dX5_shift_21 (S.r_ts) (rfl) (by omega) ?_
  refine J.if_lt (tgt := 34) X dX5_shift_22 (by decide) (fun c1 => ?_) (fun c1 => ?_)
  · skip
    refine J.bipush (v := -11) X dX5_shift_34 (by decide) ?_
    refine J.zreturn X dX5_shift_36 (rfl) (jRi.of ?_)
    rcases hf with ⟨-, e⟩ | ⟨e, -⟩
    · exact ⟨e.symm, rfl⟩
    · exact absurd c1 e
  · skip
    refine J.aload0 X dX5_shift_25 ?_
    refine J.getf X dX5_shift_26 fl_X5_39_X5 (S.o) rfl ?_
    refine J.iload3 X dX5_shift_29 ?_
    refine J.iald X dX5_shift_30 (S.r_ts) (rfl) (by omega) ?_
    refine J.if_ge (tgt := 37) X dX5_shift_31 (by decide) (fun c2 => ?_) (fun c2 => ?_)
    · skip
      rcases hf with ⟨e, -⟩ | ⟨-, -, hf⟩
      · exact absurd e (fun z => z.elim c1 (Int32.not_lt.mpr c2))
      refine J.aload0 X dX5_shift_37 ?_
      refine J.getf X dX5_shift_38 fl_X5_39_X5 (S.o) rfl ?_
      refine J.iload1 X dX5_shift_41 ?_
      refine J.iald X dX5_shift_42 (S.r_ts) (rfl) (by omega) ?_
      refine J.aload0 X dX5_shift_43 ?_
      refine J.getf X dX5_shift_44 fl_X5_39_X5 (S.o) rfl ?_
      refine J.iload3 X dX5_shift_47 ?_
      refine J.iald X dX5_shift_48 (S.r_ts) (rfl) (by omega) ?_
      refine J.icmp_eq (tgt := 55) X dX5_shift_49 (by decide) (fun c3 => ?_) (fun c3 => ?_)
      · skip
        rcases hf with ⟨e, -⟩ | ⟨-, za, zb, hza, hzb, ea, eb, hno, rfl⟩
        · exact absurd c3 e
        have bad : J M hE 118 [some (.ref A), some (.int (nI a)), some (.int i), some (.int (nI b)), some (.int j), some (.int n), none] [] := by
          refine J.bipush (v := -13) X dX5_shift_118 (by decide) ?_
          refine J.zreturn X dX5_shift_120 (rfl) (jRi.of ?_)
          exact ⟨rfl, rfl⟩
        refine J.iload5 X dX5_shift_55 ?_
        refine J.if_lt (tgt := 118) X dX5_shift_57 (by decide) (fun c4 => ?_) (fun c4 => ?_)
        · skip
          exact bad
        · skip
          refine J.iload2 X dX5_shift_60 ?_
          refine J.if_lt (tgt := 118) X dX5_shift_61 (by decide) (fun c5 => ?_) (fun c5 => ?_)
          · skip
            exact bad
          · skip
            refine J.iload4 X dX5_shift_64 ?_
            refine J.if_lt (tgt := 118) X dX5_shift_66 (by decide) (fun c6 => ?_) (fun c6 => ?_)
            · skip
              exact bad
            · skip
              refine J.iload5 X dX5_shift_69 ?_
              refine J.aload0 X dX5_shift_71 ?_
              refine J.getf X dX5_shift_72 fl_X5_42_X5 (S.o) rfl ?_
              refine J.iload1 X dX5_shift_75 ?_
              refine J.iald X dX5_shift_76 (S.r_tz) (rfl) (by omega) ?_
              refine J.topi (y := nI za) (ea) ?_
              refine J.icmp_gt (tgt := 118) X dX5_shift_77 (by decide) (fun c7 => ?_) (fun c7 => ?_)
              · skip
                exact bad
              · skip
                refine J.iload5 X dX5_shift_80 ?_
                refine J.aload0 X dX5_shift_82 ?_
                refine J.getf X dX5_shift_83 fl_X5_42_X5 (S.o) rfl ?_
                refine J.iload3 X dX5_shift_86 ?_
                refine J.iald X dX5_shift_87 (S.r_tz) (rfl) (by omega) ?_
                refine J.topi (y := nI zb) (eb) ?_
                refine J.icmp_gt (tgt := 118) X dX5_shift_88 (by decide) (fun c8 => ?_) (fun c8 => ?_)
                · skip
                  exact bad
                · skip
                  refine J.iload2 X dX5_shift_91 ?_
                  refine J.aload0 X dX5_shift_92 ?_
                  refine J.getf X dX5_shift_93 fl_X5_42_X5 (S.o) rfl ?_
                  refine J.iload1 X dX5_shift_96 ?_
                  refine J.iald X dX5_shift_97 (S.r_tz) (rfl) (by omega) ?_
                  refine J.topi (y := nI za) (ea) ?_
                  refine J.iload5 X dX5_shift_98 ?_
                  refine J.isub X dX5_shift_100 ?_
                  refine J.icmp_gt (tgt := 118) X dX5_shift_101 (by decide) (fun c9 => ?_) (fun c9 => ?_)
                  · skip
                    exact bad
                  · skip
                    refine J.iload4 X dX5_shift_104 ?_
                    refine J.aload0 X dX5_shift_106 ?_
                    refine J.getf X dX5_shift_107 fl_X5_42_X5 (S.o) rfl ?_
                    refine J.iload3 X dX5_shift_110 ?_
                    refine J.iald X dX5_shift_111 (S.r_tz) (rfl) (by omega) ?_
                    refine J.topi (y := nI zb) (eb) ?_
                    refine J.iload5 X dX5_shift_112 ?_
                    refine J.isub X dX5_shift_114 ?_
                    refine J.icmp_le (tgt := 121) X dX5_shift_115 (by decide) (fun c10 => ?_) (fun c10 => ?_)
                    · skip
                      exact absurd ⟨c4, c5, c6, Int32.not_lt.mp c7, Int32.not_lt.mp c8, Int32.not_lt.mp c9, c10⟩ hno
                    · skip
                      exact bad
      · skip
        refine J.bipush (v := -12) X dX5_shift_52 (by decide) ?_
        refine J.zreturn X dX5_shift_54 (rfl) (jRi.of ?_)
        rcases hf with ⟨-, e⟩ | ⟨e, -⟩
        · exact ⟨e.symm, rfl⟩
        · exact absurd e c3
    · skip
      refine J.bipush (v := -11) X dX5_shift_34 (by decide) ?_
      refine J.zreturn X dX5_shift_36 (rfl) (jRi.of ?_)
      rcases hf with ⟨-, e⟩ | ⟨-, e, -⟩
      · exact ⟨e.symm, rfl⟩
      · exact absurd (Int32.not_lt.mp e) c2
def tmvd (f mv : Nat → Int64) (i c : Nat) : Nat → Int64 := fun k => if k < c then f (i + k) else mv k
def trow (mv f : Nat → Int64) (j c : Nat) : Nat → Int64 := fun x => if j ≤ x ∧ x < j + c then mv (x - j) else f x
theorem tmvd_s (f mv : Nat → Int64) (i c : Nat) : vp_updL (tmvd f mv i c) c (f (i + c)) = tmvd f mv i (c + 1) := by
  funext k; unfold vp_updL tmvd
  by_cases e : k = c
  · rw [if_pos e, if_pos (by omega), e]
  · rw [if_neg e]
    by_cases e2 : k < c
    · rw [if_pos e2, if_pos (by omega)]
    · rw [if_neg e2, if_neg (by omega)]
theorem tmvd_0 (f mv : Nat → Int64) (i : Nat) : tmvd f mv i 0 = mv := by funext k; unfold tmvd; rw [if_neg (by omega)]
theorem trow_0 (mv f : Nat → Int64) (j : Nat) : trow mv f j 0 = f := by funext k; unfold trow; rw [if_neg (by omega)]
theorem trow_s (mv f : Nat → Int64) (j c : Nat) : vp_updL (trow mv f j c) (j + c) (mv c) = trow mv f j (c + 1) := by
  funext k; unfold vp_updL trow
  by_cases e : k = j + c
  · rw [if_pos e, if_pos (by omega), e, show j + c - j = c by omega]
  · rw [if_neg e]
    by_cases e2 : j ≤ k ∧ k < j + c
    · rw [if_pos e2, if_pos (by omega)]
    · rw [if_neg e2, if_neg (by omega)]
theorem tw_shift {K : JK} {l : Launch} {hE : JIH} {A : Nat} {g sv kp go tx ac ky wt mn ts tz : Nat → Int32} {tp : Nat → Nat → Int64} {mv : Nat → Int64} {i0 i1 i2 i3 i4 i5 : Int32} (F : JF K) (T : TwR K hE A g sv kp go tx ac ky wt mn ts tz tp mv i0 i1 i2 i3 i4 i5) {a b i j n za zb : Nat} (ha : a ≤ 5) (hb : b ≤ 5) (hsa : ¬ ts a < 0) (hsab : ts a = ts b) (hza : za ≤ 60) (hzb : zb ≤ 60) (ea : tz a = nI za) (eb : tz b = nI zb) (h1 : i + n ≤ za) (h2 : j + n ≤ zb) :
    Ct K l yX5_shift wX5_shift 5 [.ref A, .int (nI a), .int (nI i), .int (nI b), .int (nI j), .int (nI n)] hE (jRi (fun r0 h' => r0 = nI n ∧ TwS K hE h' A g sv kp go tx ac ky wt mn ts tz (va_up tp b (trow (tmvd (tp a) mv i n) (tp b) j n)) (tmvd (tp a) mv i n) i0 i1 i2 i3 i4 i5)) jNo := by
  refine st_X5_shift (ls := [some (.ref A), some (.int (nI a)), some (.int (nI i)), some (.int (nI b)), some (.int (nI j)), some (.int (nI n)), none]) F rfl (body := fun M X => ?_)
  have S := T.S
  have loop2 : ∀ (q c : Nat) (h1 : JIH), c + q = n → TwS K hE h1 A g sv kp go tx ac ky wt mn ts tz (va_up tp b (trow (tmvd (tp a) mv i n) (tp b) j c)) (tmvd (tp a) mv i n) i0 i1 i2 i3 i4 i5 → J M h1 158 [some (.ref A), some (.int (nI a)), some (.int (nI i)), some (.int (nI b)), some (.int (nI j)), some (.int (nI n)), some (.int (nI c))] [] := by
    intro q
    induction q with
    | zero =>
      intro c h1 hc S
      refine J.iload6 X dX5_shift_158 ?_
      refine J.iload5 X dX5_shift_160 ?_
      refine J.icmp_geN (tgt := 190) X dX5_shift_162 (by decide) (by omega) (by omega) (fun _ => ?_) (fun q9 => absurd q9 (by omega))
      refine J.iload5 X dX5_shift_190 ?_
      refine J.zreturn X dX5_shift_192 (rfl) (jRi.of ?_)
      exact ⟨rfl, by rw [show c = n by omega] at S; exact S⟩
    | succ q ih =>
      intro c h1 hc S
      refine J.iload6 X dX5_shift_158 ?_
      refine J.iload5 X dX5_shift_160 ?_
      refine J.icmp_geN (tgt := 190) X dX5_shift_162 (by decide) (by omega) (by omega) (fun q9 => absurd q9 (by omega)) (fun _ => ?_)
      refine J.aload0 X dX5_shift_165 ?_
      refine J.getf X dX5_shift_166 fl_X5_47_X5 (S.o) rfl ?_
      refine J.iload3 X dX5_shift_169 ?_
      refine J.aaldA X dX5_shift_170 S.r_tp rfl (rfl) (by omega) ?_
      refine J.iload4 X dX5_shift_171 ?_
      refine J.iload6 X dX5_shift_173 ?_
      refine J.iaddN X dX5_shift_175 ?_
      refine J.aload0 X dX5_shift_176 ?_
      refine J.getf X dX5_shift_177 fl_X5_50_X5 (S.o) rfl ?_
      refine J.iload6 X dX5_shift_180 ?_
      refine J.lald X dX5_shift_182 (S.r_mv) (rfl) (by omega) ?_
      refine J.tw_row X dX5_shift_183 S (by omega) (rfl) (by omega) (fun h S => ?_)
      rw [va_up_self, bx_uu, trow_s] at S
      refine J.iinc6N (d := 1) X dX5_shift_184 (by decide) ?_
      refine J.goto (tgt := 158) X dX5_shift_187 (by decide) ?_
      exact ih _ _ (by omega) S
  have loop1 : ∀ (q c : Nat) (h1 : JIH), c + q = n → TwS K hE h1 A g sv kp go tx ac ky wt mn ts tz tp (tmvd (tp a) mv i c) i0 i1 i2 i3 i4 i5 → J M h1 124 [some (.ref A), some (.int (nI a)), some (.int (nI i)), some (.int (nI b)), some (.int (nI j)), some (.int (nI n)), some (.int (nI c))] [] := by
    intro q
    induction q with
    | zero =>
      intro c h1 hc S
      refine J.iload6 X dX5_shift_124 ?_
      refine J.iload5 X dX5_shift_126 ?_
      refine J.icmp_geN (tgt := 155) X dX5_shift_128 (by decide) (by omega) (by omega) (fun _ => ?_) (fun q9 => absurd q9 (by omega))
      refine J.iconst (v := nI 0) X dX5_shift_155 (by decide) ?_
      refine J.istore6 X dX5_shift_156 ?_
      rw [show c = n by omega] at S
      exact loop2 n 0 _ (by omega) (by rw [trow_0, va_up_id]; exact S)
    | succ q ih =>
      intro c h1 hc S
      refine J.iload6 X dX5_shift_124 ?_
      refine J.iload5 X dX5_shift_126 ?_
      refine J.icmp_geN (tgt := 155) X dX5_shift_128 (by decide) (by omega) (by omega) (fun q9 => absurd q9 (by omega)) (fun _ => ?_)
      refine J.aload0 X dX5_shift_131 ?_
      refine J.getf X dX5_shift_132 fl_X5_50_X5 (S.o) rfl ?_
      refine J.iload6 X dX5_shift_135 ?_
      refine J.aload0 X dX5_shift_137 ?_
      refine J.getf X dX5_shift_138 fl_X5_47_X5 (S.o) rfl ?_
      refine J.iload1 X dX5_shift_141 ?_
      refine J.aaldA X dX5_shift_142 S.r_tp rfl (rfl) (by omega) ?_
      refine J.iload2 X dX5_shift_143 ?_
      refine J.iload6 X dX5_shift_144 ?_
      refine J.iaddN X dX5_shift_146 ?_
      refine J.lald X dX5_shift_147 (S.r_row (by omega)) (rfl) (by omega) ?_
      refine J.tw_mv X dX5_shift_148 S (rfl) (by omega) (fun h S => ?_)
      rw [tmvd_s] at S
      refine J.iinc6N (d := 1) X dX5_shift_149 (by decide) ?_
      refine J.goto (tgt := 124) X dX5_shift_152 (by decide) ?_
      exact ih _ _ (by omega) S
  refine J.iload1 X dX5_shift_0 ?_
  refine J.callSi X dX5_shift_1 lk_X5_161 ce_X5_isTape (tw_isTape F (nI a)) (by decide) rfl (fun r h' e _ => ?_)
  obtain ⟨rfl, rfl⟩ := e
  refine J.if_eqB (tgt := 14) X dX5_shift_4 (by decide) (fun q9 => absurd q9 (fun z => z (nat_in (by decide) ha))) (fun _ => ?_)
  refine J.iload3 X dX5_shift_7 ?_
  refine J.callSi X dX5_shift_8 lk_X5_161 ce_X5_isTape (tw_isTape F (nI b)) (by decide) rfl (fun r h' e _ => ?_)
  obtain ⟨rfl, rfl⟩ := e
  refine J.if_neB (tgt := 16) X dX5_shift_11 (by decide) (fun _ => ?_) (fun q9 => absurd q9 (fun z => z (nat_in (by decide) hb)))
  refine J.aload0 X dX5_shift_16 ?_
  refine J.getf X dX5_shift_17 fl_X5_39_X5 (S.o) rfl ?_
  refine J.iload1 X dX5_shift_20 ?_
  refine J.iald X dX5_shift_21 (S.r_ts) (rfl) (by omega) ?_
  refine J.if_lt (tgt := 34) X dX5_shift_22 (by decide) (fun q9 => absurd q9 (hsa)) (fun _ => ?_)
  refine J.aload0 X dX5_shift_25 ?_
  refine J.getf X dX5_shift_26 fl_X5_39_X5 (S.o) rfl ?_
  refine J.iload3 X dX5_shift_29 ?_
  refine J.iald X dX5_shift_30 (S.r_ts) (rfl) (by omega) ?_
  refine J.if_ge (tgt := 37) X dX5_shift_31 (by decide) (fun _ => ?_) (fun q9 => absurd q9 (fun z => z (Int32.not_lt.mp (hsab ▸ hsa))))
  refine J.aload0 X dX5_shift_37 ?_
  refine J.getf X dX5_shift_38 fl_X5_39_X5 (S.o) rfl ?_
  refine J.iload1 X dX5_shift_41 ?_
  refine J.iald X dX5_shift_42 (S.r_ts) (rfl) (by omega) ?_
  refine J.aload0 X dX5_shift_43 ?_
  refine J.getf X dX5_shift_44 fl_X5_39_X5 (S.o) rfl ?_
  refine J.iload3 X dX5_shift_47 ?_
  refine J.iald X dX5_shift_48 (S.r_ts) (rfl) (by omega) ?_
  refine J.icmp_eq (tgt := 55) X dX5_shift_49 (by decide) (fun _ => ?_) (fun q9 => absurd q9 (fun z => z hsab))
  refine J.iload5 X dX5_shift_55 ?_
  refine J.if_ltN (tgt := 118) X dX5_shift_57 (by decide) (by omega) ?_
  refine J.iload2 X dX5_shift_60 ?_
  refine J.if_ltN (tgt := 118) X dX5_shift_61 (by decide) (by omega) ?_
  refine J.iload4 X dX5_shift_64 ?_
  refine J.if_ltN (tgt := 118) X dX5_shift_66 (by decide) (by omega) ?_
  refine J.iload5 X dX5_shift_69 ?_
  refine J.aload0 X dX5_shift_71 ?_
  refine J.getf X dX5_shift_72 fl_X5_42_X5 (S.o) rfl ?_
  refine J.iload1 X dX5_shift_75 ?_
  refine J.iald X dX5_shift_76 (S.r_tz) (rfl) (by omega) ?_
  refine J.topi (y := nI (za)) (ea) ?_
  refine J.icmp_gtN (tgt := 118) X dX5_shift_77 (by decide) (by omega) (by omega) (fun q9 => absurd q9 (by omega)) (fun _ => ?_)
  refine J.iload5 X dX5_shift_80 ?_
  refine J.aload0 X dX5_shift_82 ?_
  refine J.getf X dX5_shift_83 fl_X5_42_X5 (S.o) rfl ?_
  refine J.iload3 X dX5_shift_86 ?_
  refine J.iald X dX5_shift_87 (S.r_tz) (rfl) (by omega) ?_
  refine J.topi (y := nI (zb)) (eb) ?_
  refine J.icmp_gtN (tgt := 118) X dX5_shift_88 (by decide) (by omega) (by omega) (fun q9 => absurd q9 (by omega)) (fun _ => ?_)
  refine J.iload2 X dX5_shift_91 ?_
  refine J.aload0 X dX5_shift_92 ?_
  refine J.getf X dX5_shift_93 fl_X5_42_X5 (S.o) rfl ?_
  refine J.iload1 X dX5_shift_96 ?_
  refine J.iald X dX5_shift_97 (S.r_tz) (rfl) (by omega) ?_
  refine J.topi (y := nI (za)) (ea) ?_
  refine J.iload5 X dX5_shift_98 ?_
  refine J.isubN X dX5_shift_100 (by omega) ?_
  refine J.icmp_gtN (tgt := 118) X dX5_shift_101 (by decide) (by omega) (by omega) (fun q9 => absurd q9 (by omega)) (fun _ => ?_)
  refine J.iload4 X dX5_shift_104 ?_
  refine J.aload0 X dX5_shift_106 ?_
  refine J.getf X dX5_shift_107 fl_X5_42_X5 (S.o) rfl ?_
  refine J.iload3 X dX5_shift_110 ?_
  refine J.iald X dX5_shift_111 (S.r_tz) (rfl) (by omega) ?_
  refine J.topi (y := nI (zb)) (eb) ?_
  refine J.iload5 X dX5_shift_112 ?_
  refine J.isubN X dX5_shift_114 (by omega) ?_
  refine J.icmp_leN (tgt := 121) X dX5_shift_115 (by decide) (by omega) (by omega) (fun _ => ?_) (fun q9 => absurd q9 (by omega))
  refine J.iconst (v := nI 0) X dX5_shift_121 (by decide) ?_
  refine J.istore6 X dX5_shift_122 ?_
  exact loop1 n 0 _ (by omega) (by rw [tmvd_0]; exact S)
def tjudL (g : Nat → Int32) (s i : Int32) (z : Nat) (row : Nat → Int64) : Nat → Nat → Int32
  | 0, _ => -5
  | n + 1, k => if s < 0 ∨ i < 0 ∨ nI z - nI k ≤ i then nI (100 + k) else if row (i.toNatClampNeg + k) = (tkeyAt g 1 (nI k) 400 0).toInt64 then tjudL g s i z row n (k + 1) else nI k
theorem tw_judge0 {K : JK} {l : Launch} {hE : JIH} {A : Nat} {g sv kp go tx ac ky wt mn ts tz : Nat → Int32} {tp : Nat → Nat → Int64} {mv : Nat → Int64} {i0 i1 i2 i3 i4 i5 : Int32} (F : JF K) (T : TwR K hE A g sv kp go tx ac ky wt mn ts tz tp mv i0 i1 i2 i3 i4 i5) {t i r : Int32} (hf : (¬ (nI 0 ≤ t ∧ t ≤ nI 5) ∧ r = -1) ∨ ∃ a, a ≤ 5 ∧ t = nI a ∧ ¬ ts a < 0 ∧ ts a ≠ nI 1 ∧ r = -12) :
    Ct K l yX5_judge wX5_judge 5 [.ref A, .int t, .int i] hE (jRi (fun r0 h' => r0 = r ∧ hE = h')) jNo := by
  refine st_X5_judge (ls := [some (.ref A), some (.int t), some (.int i), none, none]) F rfl (body := fun M X => ?_)
  have S := T.S
  refine J.iload1 X dX5_judge_0 ?_
  refine J.callSi X dX5_judge_1 lk_X5_161 ce_X5_isTape (tw_isTape F t) (by decide) rfl (fun r h' e _ => ?_)
  obtain ⟨rfl, rfl⟩ := e
  refine J.if_neB (tgt := 9) X dX5_judge_4 (by decide) (fun c1 => ?_) (fun c1 => ?_)
  · skip
    rcases hf with ⟨e, -⟩ | ⟨a, ha, rfl, h1, h2, rfl⟩
    · exact absurd c1 e
    refine J.aload0 X dX5_judge_9 ?_
    refine J.getf X dX5_judge_10 fl_X5_39_X5 (S.o) rfl ?_
    refine J.iload1 X dX5_judge_13 ?_
    refine J.iald X dX5_judge_14 (S.r_ts) (rfl) (by omega) ?_
    refine J.if_lt (tgt := 31) X dX5_judge_15 (by decide) (fun q9 => absurd q9 (h1)) (fun _ => ?_)
    refine J.aload0 X dX5_judge_18 ?_
    refine J.getf X dX5_judge_19 fl_X5_39_X5 (S.o) rfl ?_
    refine J.iload1 X dX5_judge_22 ?_
    refine J.iald X dX5_judge_23 (S.r_ts) (rfl) (by omega) ?_
    refine J.iconst (v := nI 1) X dX5_judge_24 (by decide) ?_
    refine J.icmp_eq (tgt := 31) X dX5_judge_25 (by decide) (fun q9 => absurd q9 (h2)) (fun _ => ?_)
    refine J.bipush (v := -12) X dX5_judge_28 (by decide) ?_
    refine J.zreturn X dX5_judge_30 (rfl) (jRi.of ?_)
    exact ⟨rfl, rfl⟩
  · skip
    refine J.iconst (v := -1) X dX5_judge_7 (by decide) ?_
    refine J.zreturn X dX5_judge_8 (rfl) (jRi.of ?_)
    rcases hf with ⟨-, e⟩ | ⟨a, ha, rfl, -⟩
    · exact ⟨e.symm, rfl⟩
    · exact absurd (nat_in (by decide) ha) c1
theorem tw_judge {K : JK} {l : Launch} {hE : JIH} {A : Nat} {g sv kp go tx ac ky wt mn ts tz : Nat → Int32} {tp : Nat → Nat → Int64} {mv : Nat → Int64} {i0 i1 i2 i3 i4 i5 : Int32} (F : JF K) (T : TwR K hE A g sv kp go tx ac ky wt mn ts tz tp mv i0 i1 i2 i3 i4 i5) (hw : WG g) {a z : Nat} {i : Int32} (ha : a ≤ 5) (hs : ts a < 0 ∨ ts a = nI 1) (hz : z ≤ 60) (hzz : tz a = nI z) :
    Ct K l yX5_judge wX5_judge 5 [.ref A, .int (nI a), .int i] hE (jRi (fun r0 h' => r0 = tjudL g (ts a) i z (tp a) (tmany g 1 400) 0 ∧ hE = h')) jNo := by
  refine st_X5_judge (ls := [some (.ref A), some (.int (nI a)), some (.int i), none, none]) F rfl (body := fun M X => ?_)
  have S := T.S
  have hm := tmany_le g 1 400
  generalize hall : tmany g 1 400 = all at hm
  have loop : ∀ (q k : Nat), k + q = all → tjudL g (ts a) i z (tp a) q k = tjudL g (ts a) i z (tp a) all 0 → J M hE 40 [some (.ref A), some (.int (nI a)), some (.int i), some (.int (nI all)), some (.int (nI k))] [] := by
    intro q
    induction q with
    | zero =>
      intro k hk e
      refine J.iload4 X dX5_judge_40 ?_
      refine J.iload3 X dX5_judge_42 ?_
      refine J.icmp_geN (tgt := 110) X dX5_judge_43 (by decide) (by omega) (by omega) (fun _ => ?_) (fun q9 => absurd q9 (by omega))
      refine J.bipush (v := -5) X dX5_judge_110 (by decide) ?_
      refine J.zreturn X dX5_judge_112 (rfl) (jRi.of ?_)
      exact ⟨e.trans (by rw [hall]), rfl⟩
    | succ q ih =>
      intro k hk e
      replace e : (if ts a < 0 ∨ i < 0 ∨ nI z - nI k ≤ i then nI (100 + k) else if tp a (i.toNatClampNeg + k) = (tkeyAt g 1 (nI k) 400 0).toInt64 then tjudL g (ts a) i z (tp a) q (k + 1) else nI k) = tjudL g (ts a) i z (tp a) all 0 := e
      have bad : (ts a < 0 ∨ i < 0 ∨ nI z - nI k ≤ i) → J M hE 72 [some (.ref A), some (.int (nI a)), some (.int i), some (.int (nI all)), some (.int (nI k))] [] := by
        intro hb
        rw [if_pos hb] at e
        refine J.bipush (v := nI 100) X dX5_judge_72 (by decide) ?_
        refine J.iload4 X dX5_judge_74 ?_
        refine J.iaddN X dX5_judge_76 ?_
        refine J.zreturn X dX5_judge_77 (rfl) (jRi.of ?_)
        exact ⟨e.trans (by rw [hall]), rfl⟩
      refine J.iload4 X dX5_judge_40 ?_
      refine J.iload3 X dX5_judge_42 ?_
      refine J.icmp_geN (tgt := 110) X dX5_judge_43 (by decide) (by omega) (by omega) (fun q9 => absurd q9 (by omega)) (fun _ => ?_)
      refine J.aload0 X dX5_judge_46 ?_
      refine J.getf X dX5_judge_47 fl_X5_39_X5 (S.o) rfl ?_
      refine J.iload1 X dX5_judge_50 ?_
      refine J.iald X dX5_judge_51 (S.r_ts) (rfl) (by omega) ?_
      refine J.if_lt (tgt := 72) X dX5_judge_52 (by decide) (fun c2 => ?_) (fun c2 => ?_)
      · skip
        exact bad (Or.inl c2)
      · skip
        refine J.iload2 X dX5_judge_55 ?_
        refine J.if_lt (tgt := 72) X dX5_judge_56 (by decide) (fun c3 => ?_) (fun c3 => ?_)
        · skip
          exact bad (Or.inr (Or.inl c3))
        · skip
          refine J.iload2 X dX5_judge_59 ?_
          refine J.aload0 X dX5_judge_60 ?_
          refine J.getf X dX5_judge_61 fl_X5_42_X5 (S.o) rfl ?_
          refine J.iload1 X dX5_judge_64 ?_
          refine J.iald X dX5_judge_65 (S.r_tz) (rfl) (by omega) ?_
          refine J.topi (y := nI (z)) (hzz) ?_
          refine J.iload4 X dX5_judge_66 ?_
          refine J.isub X dX5_judge_68 ?_
          refine J.icmp_lt (tgt := 78) X dX5_judge_69 (by decide) (fun c4 => ?_) (fun c4 => ?_)
          · skip
            rw [if_neg (fun h => h.elim c2 (fun h => h.elim c3 (fun h => absurd c4 (Int32.not_lt.mpr h))))] at e
            obtain ⟨i', hi', rfl⟩ := nI_of c3
            have hlt : i' + k < z := by
              rw [Int32.lt_iff_toInt_lt, nI_toInt hi', pk_sub_toInt (by omega) (by omega)] at c4
              omega
            rw [nI_clamp hi'] at e
            refine J.aload0 X dX5_judge_78 ?_
            refine J.getf X dX5_judge_79 fl_X5_47_X5 (S.o) rfl ?_
            refine J.iload1 X dX5_judge_82 ?_
            refine J.aaldA X dX5_judge_83 S.r_tp rfl (rfl) (by omega) ?_
            refine J.iload2 X dX5_judge_84 ?_
            refine J.iload4 X dX5_judge_85 ?_
            refine J.iaddN X dX5_judge_87 ?_
            refine J.lald X dX5_judge_88 (S.r_row (by omega)) (rfl) (by omega) ?_
            refine J.aload0 X dX5_judge_89 ?_
            refine J.iconst (v := nI 1) X dX5_judge_90 (by decide) ?_
            refine J.iload4 X dX5_judge_91 ?_
            refine J.callVi X dX5_judge_93 lk_X5_116_X5 ce_X5_keyAt (tw_keyAt F S.1 hw (by omega) (nI k)) (by decide) rfl (S.o) rfl (fun r h' w _ => ?_)
            obtain ⟨rfl, rfl⟩ := w
            refine J.i2l X dX5_judge_96 ?_
            refine J.lcmp X dX5_judge_97 ?_
            refine J.if_eq (tgt := 104) X dX5_judge_98 (by decide) (fun c5 => ?_) (fun c5 => ?_)
            · skip
              rw [if_pos (lg_cmp_0.mp c5)] at e
              refine J.iinc4N (d := 1) X dX5_judge_104 (by decide) ?_
              refine J.goto (tgt := 40) X dX5_judge_107 (by decide) ?_
              exact ih _ (by omega) e
            · skip
              rw [if_neg (fun h => c5 (lg_cmp_0.mpr h))] at e
              refine J.iload4 X dX5_judge_101 ?_
              refine J.zreturn X dX5_judge_103 (rfl) (jRi.of ?_)
              exact ⟨e.trans (by rw [hall]), rfl⟩
          · skip
            exact bad (Or.inr (Or.inr (Int32.not_lt.mp c4)))
  refine J.iload1 X dX5_judge_0 ?_
  refine J.callSi X dX5_judge_1 lk_X5_161 ce_X5_isTape (tw_isTape F (nI a)) (by decide) rfl (fun r h' e _ => ?_)
  obtain ⟨rfl, rfl⟩ := e
  refine J.if_neB (tgt := 9) X dX5_judge_4 (by decide) (fun _ => ?_) (fun q9 => absurd q9 (fun z => z (nat_in (by decide) ha)))
  have go31 : J M hE 31 [some (.ref A), some (.int (nI a)), some (.int i), none, none] [] := by
    refine J.aload0 X dX5_judge_31 ?_
    refine J.iconst (v := nI 1) X dX5_judge_32 (by decide) ?_
    refine J.callVi X dX5_judge_33 lk_X5_158_X5 ce_X5_manyAt (tw_manyAt F S.1 hw (by omega)) (by decide) rfl (S.o) rfl (fun r h' e _ => ?_)
    obtain ⟨rfl, rfl⟩ := e
    rw [hall]
    refine J.istore3 X dX5_judge_36 ?_
    refine J.iconst (v := nI 0) X dX5_judge_37 (by decide) ?_
    refine J.istore4 X dX5_judge_38 ?_
    exact loop all 0 (by omega) rfl
  refine J.aload0 X dX5_judge_9 ?_
  refine J.getf X dX5_judge_10 fl_X5_39_X5 (S.o) rfl ?_
  refine J.iload1 X dX5_judge_13 ?_
  refine J.iald X dX5_judge_14 (S.r_ts) (rfl) (by omega) ?_
  refine J.if_lt (tgt := 31) X dX5_judge_15 (by decide) (fun c1 => ?_) (fun c1 => ?_)
  · skip
    exact go31
  · skip
    refine J.aload0 X dX5_judge_18 ?_
    refine J.getf X dX5_judge_19 fl_X5_39_X5 (S.o) rfl ?_
    refine J.iload1 X dX5_judge_22 ?_
    refine J.iald X dX5_judge_23 (S.r_ts) (rfl) (by omega) ?_
    refine J.iconst (v := nI 1) X dX5_judge_24 (by decide) ?_
    refine J.icmp_eq (tgt := 31) X dX5_judge_25 (by decide) (fun _ => ?_) (fun q9 => absurd q9 (fun z => hs.elim c1 z))
    exact go31
