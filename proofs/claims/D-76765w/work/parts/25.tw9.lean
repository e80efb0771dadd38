/-! the model: need, odds, mean -/
/-- for one trace of m clauses from i on: the least capacity from c on, r of them, under which it is had often enough -/
def tneedL (f : Nat) (ac ky wt : Nat → Int32) (m i : Nat) (g : Nat → Int32) (x : Int32) : Nat → Nat → (Nat → Int32) → Nat → (Nat → Int32) → Nat → Int32 → Prop
  | 0, _, go, n, go', n', r => go' = go ∧ n' = n ∧ r = -5
  | q + 1, c, go, n, go', n', r => ∃ g1 go1 n1 g2 go2 n2, ttrim f (tcapG g (nI c)) go n g1 go1 n1 ∧ trunsR f ac ky wt m i g1 go1 n1 g2 go2 n2 ∧ ((x ≤ g2 3209 - g1 3209 ∧ go' = go2 ∧ n' = n2 ∧ r = nI c) ∨ (g2 3209 - g1 3209 < x ∧ tneedL f ac ky wt m i g x q (c + 1) go2 n2 go' n' r))
theorem tneedL.le {f : Nat} {ac ky wt : Nat → Int32} {m i : Nat} {g : Nat → Int32} {x : Int32} (hw : WG g) : ∀ {q c : Nat} {go : Nat → Int32} {n : Nat} {go' : Nat → Int32} {n' : Nat} {r : Int32}, n ≤ 400 → tneedL f ac ky wt m i g x q c go n go' n' r → n' ≤ 400
  | 0, _, _, _, _, _, _, hn, h => by obtain ⟨-, rfl, -⟩ := h; exact hn
  | q + 1, c, _, _, _, _, _, hn, h => by
    obtain ⟨g1, go1, n1, g2, go2, n2, h1, h2, h3⟩ := h
    have a := h1.WG (hw.cap _) hn
    have b := h2.WG a.1 a.2
    rcases h3 with ⟨-, -, rfl, -⟩ | ⟨-, h3⟩
    · exact b.2
    · exact tneedL.le hw b.2 h3
theorem tw_need0 {K : JK} {l : Launch} {hE : JIH} {A : Nat} {g sv kp go tx ac ky wt mn ts tz : Nat → Int32} {tp : Nat → Nat → Int64} {mv : Nat → Int64} {i0 i1 i2 i4 i5 : Int32} (F : JF K) {c : Nat} (T : TwR K hE A g sv kp go tx ac ky wt mn ts tz tp mv i0 i1 i2 (nI c) i4 i5) {t x : Int32} (hf : ¬ (nI 0 ≤ t ∧ t ≤ nI c - nI 1)) :
    Ct K l yX5_need wX5_need 6 [.ref A, .int t, .int x] hE (jRi (fun r0 h' => r0 = -1 ∧ hE = h')) jNo := by
  refine st_X5_need (ls := [some (.ref A), some (.int t), some (.int x), none, none]) F rfl (body := fun M X => ?_)
  have S := T.S
  refine J.aload0 X dX5_need_0 ?_
  refine J.iload1 X dX5_need_1 ?_
  refine J.callVi X dX5_need_2 lk_X5_145_X5 ce_X5_isTrace (tw_isTrace F S.1 t) (by decide) rfl (S.o) rfl (fun r h' e _ => ?_)
  obtain ⟨rfl, rfl⟩ := e
  refine J.if_neB (tgt := 10) X dX5_need_5 (by decide) (fun q9 => absurd q9 (hf)) (fun _ => ?_)
  refine J.iconst (v := -1) X dX5_need_8 (by decide) ?_
  refine J.zreturn X dX5_need_9 (rfl) (jRi.of ?_)
  exact ⟨rfl, rfl⟩
theorem tw_need1 {K : JK} {l : Launch} {hE : JIH} {A : Nat} {g sv kp go tx ac ky wt mn ts tz : Nat → Int32} {tp : Nat → Nat → Int64} {mv : Nat → Int64} {i0 i1 i2 i4 i5 : Int32} (F : JF K) {c : Nat} (T : TwR K hE A g sv kp go tx ac ky wt mn ts tz tp mv i0 i1 i2 (nI c) i4 i5) {t x : Int32} (hf : (nI 0 ≤ t ∧ t ≤ nI c - nI 1)) (hx : ¬ (nI 0 ≤ x ∧ x ≤ nI 20)) :
    Ct K l yX5_need wX5_need 6 [.ref A, .int t, .int x] hE (jRi (fun r0 h' => r0 = -2 ∧ hE = h')) jNo := by
  refine st_X5_need (ls := [some (.ref A), some (.int t), some (.int x), none, none]) F rfl (body := fun M X => ?_)
  have S := T.S
  refine J.aload0 X dX5_need_0 ?_
  refine J.iload1 X dX5_need_1 ?_
  refine J.callVi X dX5_need_2 lk_X5_145_X5 ce_X5_isTrace (tw_isTrace F S.1 t) (by decide) rfl (S.o) rfl (fun r h' e _ => ?_)
  obtain ⟨rfl, rfl⟩ := e
  refine J.if_neB (tgt := 10) X dX5_need_5 (by decide) (fun _ => ?_) (fun q9 => absurd q9 (fun z => z hf))
  refine J.iload2 X dX5_need_10 ?_
  refine J.iconst (v := nI 0) X dX5_need_11 (by decide) ?_
  refine J.bipush (v := nI 20) X dX5_need_12 (by decide) ?_
  refine J.callSi X dX5_need_14 lk_X5_54 ce_X5_in (tw_in F x 0 20) (by decide) rfl (fun r h' e _ => ?_)
  obtain ⟨rfl, rfl⟩ := e
  refine J.if_neB (tgt := 23) X dX5_need_17 (by decide) (fun q9 => absurd q9 (hx)) (fun _ => ?_)
  refine J.bipush (v := -2) X dX5_need_20 (by decide) ?_
  refine J.zreturn X dX5_need_22 (rfl) (jRi.of ?_)
  exact ⟨rfl, rfl⟩
theorem tw_need {K : JK} {l : Launch} {hE : JIH} {A : Nat} {g sv kp go tx ac ky wt mn ts tz : Nat → Int32} {tp : Nat → Nat → Int64} {mv : Nat → Int64} {i0 i2 i4 i5 : Int32} (F : JF K) {n c : Nat} (T : TwR K hE A g sv kp go tx ac ky wt mn ts tz tp mv i0 (nI n) i2 (nI c) i4 i5) (hc : c ≤ 6) (hw : WG g) (hn : n ≤ 400) {j m f : Nat} (hj : j < c) {x : Int32} (hx : nI 0 ≤ x ∧ x ≤ nI 20) (hm : m ≤ 20) (hmn : mn j = nI m) {go' : Nat → Int32} {n' : Nat} {r : Int32} (hf : tneedL f ac ky wt m (j * 20) g x 60 1 go n go' n' r) :
    Ct K l yX5_need wX5_need 6 [.ref A, .int (nI j), .int x] hE (jRi (fun r0 h' => r0 = r ∧ TwS K hE h' A g (tcp 3253 g sv) kp (go') tx ac ky wt mn ts tz tp mv i0 (nI n') i2 (nI c) i4 i5)) jNo := by
  refine st_X5_need (ls := [some (.ref A), some (.int (nI j)), some (.int x), none, none]) F rfl (body := fun M X => ?_)
  have S := T.S
  have loop : ∀ (q d : Nat) (go : Nat → Int32) (n : Nat) (h1 : JIH), d + q = 61 → TwS K hE h1 A g (tcp 3253 g sv) kp go tx ac ky wt mn ts tz tp mv i0 (nI n) i2 (nI c) i4 i5 → n ≤ 400 → tneedL f ac ky wt m (j * 20) g x q d go n go' n' r → J M h1 40 [some (.ref A), some (.int (nI j)), some (.int x), some (.int (-5)), some (.int (nI d))] [] := by
    intro q
    induction q with
    | zero =>
      intro d go n h1 hd S hn hf
      obtain ⟨rfl, rfl, rfl⟩ := hf
      refine J.iload4 X dX5_need_40 ?_
      refine J.bipush (v := nI 60) X dX5_need_42 (by decide) ?_
      refine J.icmp_gtN (tgt := 90) X dX5_need_44 (by decide) (by omega) (by omega) (fun _ => ?_) (fun q9 => absurd q9 (by omega))
      refine J.iload3 X dX5_need_90 ?_
      refine J.zreturn X dX5_need_91 (rfl) (jRi.of ?_)
      exact ⟨rfl, S⟩
    | succ q ih =>
      intro d go n h1 hd S hn hf
      obtain ⟨g1, go1, n1, g2, go2, n2, e1, e2, hf⟩ := hf
      have a1 := e1.WG (hw.cap _) hn
      have a2 := e2.WG a1.1 a1.2
      refine J.iload4 X dX5_need_40 ?_
      refine J.bipush (v := nI 60) X dX5_need_42 (by decide) ?_
      refine J.icmp_gtN (tgt := 90) X dX5_need_44 (by decide) (by omega) (by omega) (fun q9 => absurd q9 (by omega)) (fun _ => ?_)
      refine J.iload3 X dX5_need_47 ?_
      refine J.if_ge (tgt := 90) X dX5_need_48 (by decide) (fun q9 => absurd q9 (by decide)) (fun _ => ?_)
      refine J.aload0 X dX5_need_51 ?_
      refine J.iload4 X dX5_need_52 ?_
      refine J.callVv X dX5_need_54 lk_X5_93_X5 ce_X5_capacity (tw_capacity F S.1 hw hn (nI d) e1) (by decide) rfl (S.o) rfl (fun h' S' _ => ?_)
      replace S := S.tr S'
      refine J.aload0 X dX5_need_57 ?_
      refine J.iload1 X dX5_need_58 ?_
      refine J.callVi X dX5_need_59 lk_X5_148_X5 ce_X5_runs (tw_runs F S.1 a1.1 a1.2 (by omega) hmn hm e2) (by decide) rfl (S.o) rfl (fun r h' z _ => ?_)
      obtain ⟨rfl, S'⟩ := z
      replace S := S.tr S'
      refine J.iload2 X dX5_need_62 ?_
      refine J.icmp_lt (tgt := 71) X dX5_need_63 (by decide) (fun c1 => ?_) (fun c1 => ?_)
      · skip
        rcases hf with ⟨e, -⟩ | ⟨-, hf⟩
        · exact absurd c1 (Int32.not_lt.mpr e)
        refine J.iload3 X dX5_need_71 ?_
        refine J.istore3 X dX5_need_72 ?_
        refine J.aload0 X dX5_need_73 ?_
        refine J.getf X dX5_need_74 fl_X5_15_X5 (S.o) rfl ?_
        refine J.aload0 X dX5_need_77 ?_
        refine J.getf X dX5_need_78 fl_X5_11_X5 (S.o) rfl ?_
        refine J.callSv X dX5_need_81 lk_X5_120 ce_X5_copy (tw_cp_g F S.1) (by decide) rfl (fun h' S' _ => ?_)
        replace S := S.tr S'
        refine J.tw_same X S tcp2 (fun h S => ?_)
        refine J.iinc4N (d := 1) X dX5_need_84 (by decide) ?_
        refine J.goto (tgt := 40) X dX5_need_87 (by decide) ?_
        exact ih _ _ _ _ (by omega) S a2.2 hf
      · skip
        rcases hf with ⟨-, rfl, rfl, rfl⟩ | ⟨e, -⟩
        · refine J.iload4 X dX5_need_66 ?_
          refine J.goto (tgt := 72) X dX5_need_68 (by decide) ?_
          refine J.istore3 X dX5_need_72 ?_
          refine J.aload0 X dX5_need_73 ?_
          refine J.getf X dX5_need_74 fl_X5_15_X5 (S.o) rfl ?_
          refine J.aload0 X dX5_need_77 ?_
          refine J.getf X dX5_need_78 fl_X5_11_X5 (S.o) rfl ?_
          refine J.callSv X dX5_need_81 lk_X5_120 ce_X5_copy (tw_cp_g F S.1) (by decide) rfl (fun h' S' _ => ?_)
          replace S := S.tr S'
          refine J.tw_same X S tcp2 (fun h S => ?_)
          refine J.iinc4N (d := 1) X dX5_need_84 (by decide) ?_
          refine J.goto (tgt := 40) X dX5_need_87 (by decide) ?_
          refine J.iload4 X dX5_need_40 ?_
          refine J.bipush (v := nI 60) X dX5_need_42 (by decide) ?_
          refine J.icmp_gtN (tgt := 90) X dX5_need_44 (by decide) (by omega) (by omega) (fun c2 => ?_) (fun c2 => ?_)
          · skip
            refine J.iload3 X dX5_need_90 ?_
            refine J.zreturn X dX5_need_91 (rfl) (jRi.of ?_)
            exact ⟨rfl, S⟩
          · skip
            refine J.iload3 X dX5_need_47 ?_
            refine J.if_geN (tgt := 90) X dX5_need_48 (by decide) (by omega) ?_
            refine J.iload3 X dX5_need_90 ?_
            refine J.zreturn X dX5_need_91 (rfl) (jRi.of ?_)
            exact ⟨rfl, S⟩
        · exact absurd e c1
  refine J.aload0 X dX5_need_0 ?_
  refine J.iload1 X dX5_need_1 ?_
  refine J.callVi X dX5_need_2 lk_X5_145_X5 ce_X5_isTrace (tw_isTrace F S.1 (nI j)) (by decide) rfl (S.o) rfl (fun r h' e _ => ?_)
  obtain ⟨rfl, rfl⟩ := e
  refine J.if_neB (tgt := 10) X dX5_need_5 (by decide) (fun _ => ?_) (fun q9 => absurd q9 (fun z => z (nat_trace hc hj)))
  refine J.iload2 X dX5_need_10 ?_
  refine J.iconst (v := nI 0) X dX5_need_11 (by decide) ?_
  refine J.bipush (v := nI 20) X dX5_need_12 (by decide) ?_
  refine J.callSi X dX5_need_14 lk_X5_54 ce_X5_in (tw_in F x 0 20) (by decide) rfl (fun r h' e _ => ?_)
  obtain ⟨rfl, rfl⟩ := e
  refine J.if_neB (tgt := 23) X dX5_need_17 (by decide) (fun _ => ?_) (fun q9 => absurd q9 (fun z => z hx))
  refine J.aload0 X dX5_need_23 ?_
  refine J.getf X dX5_need_24 fl_X5_11_X5 (S.o) rfl ?_
  refine J.aload0 X dX5_need_27 ?_
  refine J.getf X dX5_need_28 fl_X5_15_X5 (S.o) rfl ?_
  refine J.callSv X dX5_need_31 lk_X5_120 ce_X5_copy (tw_cp_sv F S.1) (by decide) rfl (fun h' S' _ => ?_)
  replace S := S.tr S'
  refine J.bipush (v := -5) X dX5_need_34 (by decide) ?_
  refine J.istore3 X dX5_need_36 ?_
  refine J.iconst (v := nI 1) X dX5_need_37 (by decide) ?_
  refine J.istore4 X dX5_need_38 ?_
  exact loop 60 1 _ _ _ rfl S hn hf
/-- over the borders from b on, q of them: how many are enough -/
def toddsL (f : Nat) (ac ky wt : Nat → Int32) (m i : Nat) (g : Nat → Int32) (x : Int32) : Nat → Nat → (Nat → Int32) → Nat → (Nat → Int32) → Nat → Nat → Prop
  | 0, _, go, n, go', n', s => go' = go ∧ n' = n ∧ s = 0
  | q + 1, b, go, n, go', n', s => ∃ g1 go1 n1 g2 go2 n2 s', ttrim f (upd g 3201 (nI b)) go n g1 go1 n1 ∧ trunsR f ac ky wt m i g1 go1 n1 g2 go2 n2 ∧ toddsL f ac ky wt m i g x q (b + 1) go2 n2 go' n' s' ∧ s = s' + (if x ≤ g2 3209 - g1 3209 then 1 else 0)
theorem toddsL.le {f : Nat} {ac ky wt : Nat → Int32} {m i : Nat} {g : Nat → Int32} {x : Int32} (hw : WG g) : ∀ {q c : Nat} {go : Nat → Int32} {n : Nat} {go' : Nat → Int32} {n' s : Nat}, n ≤ 400 → toddsL f ac ky wt m i g x q c go n go' n' s → n' ≤ 400 ∧ s ≤ q
  | 0, _, _, _, _, _, _, hn, h => by obtain ⟨-, rfl, rfl⟩ := h; exact ⟨hn, Nat.le_refl _⟩
  | q + 1, c, _, _, _, _, _, hn, h => by
    obtain ⟨g1, go1, n1, g2, go2, n2, s', h1, h2, h3, rfl⟩ := h
    have a := h1.WG (hw.upd (by omega) _) hn
    have b := h2.WG a.1 a.2
    have d := toddsL.le hw b.2 h3
    exact ⟨d.1, by split <;> omega⟩
theorem tw_odds0 {K : JK} {l : Launch} {hE : JIH} {A : Nat} {g sv kp go tx ac ky wt mn ts tz : Nat → Int32} {tp : Nat → Nat → Int64} {mv : Nat → Int64} {i0 i1 i2 i4 i5 : Int32} (F : JF K) {c : Nat} (T : TwR K hE A g sv kp go tx ac ky wt mn ts tz tp mv i0 i1 i2 (nI c) i4 i5) {t x p : Int32} (hf : ¬ ((nI 0 ≤ t ∧ t ≤ nI c - nI 1) ∧ (nI 0 ≤ x ∧ x ≤ nI 20) ∧ (nI 0 ≤ p ∧ p ≤ nI 1))) :
    Ct K l yX5_odds wX5_odds 6 [.ref A, .int t, .int x, .int p] hE (jRl (fun r0 h' => r0 = tNO ∧ hE = h')) jNo := by
  refine st_X5_odds (ls := [some (.ref A), some (.int t), some (.int x), some (.int p), none, none]) F rfl (body := fun M X => ?_)
  have S := T.S
  refine J.aload0 X dX5_odds_0 ?_
  refine J.iload1 X dX5_odds_1 ?_
  refine J.callVi X dX5_odds_2 lk_X5_145_X5 ce_X5_isTrace (tw_isTrace F S.1 t) (by decide) rfl (S.o) rfl (fun r h' e _ => ?_)
  obtain ⟨rfl, rfl⟩ := e
  refine J.if_eqB (tgt := 27) X dX5_odds_5 (by decide) (fun c1 => ?_) (fun c1 => ?_)
  · skip
    refine J.ldc2 (v := (-9223372036854775808)) X dX5_odds_27 q2859 ?_
    refine J.lreturn X dX5_odds_30 (jRl.of ?_)
    exact ⟨rfl, rfl⟩
  · skip
    refine J.iload2 X dX5_odds_8 ?_
    refine J.iconst (v := nI 0) X dX5_odds_9 (by decide) ?_
    refine J.bipush (v := nI 20) X dX5_odds_10 (by decide) ?_
    refine J.callSi X dX5_odds_12 lk_X5_54 ce_X5_in (tw_in F x 0 20) (by decide) rfl (fun r h' e _ => ?_)
    obtain ⟨rfl, rfl⟩ := e
    refine J.if_eqB (tgt := 27) X dX5_odds_15 (by decide) (fun c2 => ?_) (fun c2 => ?_)
    · skip
      refine J.ldc2 (v := (-9223372036854775808)) X dX5_odds_27 q2859 ?_
      refine J.lreturn X dX5_odds_30 (jRl.of ?_)
      exact ⟨rfl, rfl⟩
    · skip
      refine J.iload3 X dX5_odds_18 ?_
      refine J.iconst (v := nI 0) X dX5_odds_19 (by decide) ?_
      refine J.iconst (v := nI 1) X dX5_odds_20 (by decide) ?_
      refine J.callSi X dX5_odds_21 lk_X5_54 ce_X5_in (tw_in F p 0 1) (by decide) rfl (fun r h' e _ => ?_)
      obtain ⟨rfl, rfl⟩ := e
      refine J.if_neB (tgt := 31) X dX5_odds_24 (by decide) (fun q9 => absurd q9 (fun z => hf ⟨c1, c2, z⟩)) (fun _ => ?_)
      refine J.ldc2 (v := (-9223372036854775808)) X dX5_odds_27 q2859 ?_
      refine J.lreturn X dX5_odds_30 (jRl.of ?_)
      exact ⟨rfl, rfl⟩
theorem tw_odds {K : JK} {l : Launch} {hE : JIH} {A : Nat} {g sv kp go tx ac ky wt mn ts tz : Nat → Int32} {tp : Nat → Nat → Int64} {mv : Nat → Int64} {i0 i2 i4 i5 : Int32} (F : JF K) {n c : Nat} (T : TwR K hE A g sv kp go tx ac ky wt mn ts tz tp mv i0 (nI n) i2 (nI c) i4 i5) (hc : c ≤ 6) (hw : WG g) (hn : n ≤ 400) {j m f k p : Nat} (hj : j < c) {x : Int32} (hx : nI 0 ≤ x ∧ x ≤ nI 20) (hp : p < 2) (hm : m ≤ 20) (hmn : mn j = nI m) (hk : k ≤ 1000) (hcap : g 3200 = nI k) {go' : Nat → Int32} {n' s : Nat} (hf : toddsL f ac ky wt m (j * 20) g x (k + 1) 0 go n go' n' s) :
    Ct K l yX5_odds wX5_odds 6 [.ref A, .int (nI j), .int x, .int (nI p)] hE (jRl (fun r0 h' => r0 = lN ((if p = 0 then s else k + 1) / Nat.gcd s (k + 1)) ∧ TwS K hE h' A g (tcp 3253 g sv) kp (go') tx ac ky wt mn ts tz tp mv i0 (nI n') i2 (nI c) i4 i5)) jNo := by
  refine st_X5_odds (ls := [some (.ref A), some (.int (nI j)), some (.int x), some (.int (nI p)), none, none]) F rfl (body := fun M X => ?_)
  have S := T.S
  have hs := (toddsL.le hw hn hf).2
  have loop : ∀ (q b s1 s2 : Nat) (go : Nat → Int32) (n : Nat) (h1 : JIH), b + q = k + 1 → TwS K hE h1 A g (tcp 3253 g sv) kp go tx ac ky wt mn ts tz tp mv i0 (nI n) i2 (nI c) i4 i5 → n ≤ 400 → toddsL f ac ky wt m (j * 20) g x q b go n go' n' s2 → s1 + s2 = s → J M h1 48 [some (.ref A), some (.int (nI j)), some (.int x), some (.int (nI p)), some (.int (nI s1)), some (.int (nI b))] [] := by
    intro q
    induction q with
    | zero =>
      intro b s1 s2 go n h1 hd S hn hf hs12
      obtain ⟨rfl, rfl, rfl⟩ := hf
      refine J.iload5 X dX5_odds_48 ?_
      refine J.aload0 X dX5_odds_50 ?_
      refine J.getf X dX5_odds_51 fl_X5_15_X5 (S.o) rfl ?_
      refine J.sipush (v := nI 3200) X dX5_odds_54 (by decide) ?_
      refine J.iald X dX5_odds_57 (S.r_sv) (rfl) (by omega) ?_
      refine J.topi (y := nI (k)) (by rw [tcp_lt (by omega)]; exact hcap) ?_
      refine J.icmp_gtN (tgt := 111) X dX5_odds_58 (by decide) (by omega) (by omega) (fun _ => ?_) (fun q9 => absurd q9 (by omega))
      refine J.iload4 X dX5_odds_111 ?_
      refine J.aload0 X dX5_odds_113 ?_
      refine J.getf X dX5_odds_114 fl_X5_11_X5 (S.o) rfl ?_
      refine J.sipush (v := nI 3200) X dX5_odds_117 (by decide) ?_
      refine J.iald X dX5_odds_120 (S.r_g) (rfl) (by omega) ?_
      refine J.topi (y := nI (k)) (hcap) ?_
      refine J.iconst (v := nI 1) X dX5_odds_121 (by decide) ?_
      refine J.iaddN X dX5_odds_122 ?_
      refine J.iload3 X dX5_odds_123 ?_
      refine J.callSl X dX5_odds_124 lk_X5_154 ce_X5_part (tw_part F (by omega) (by omega) (by omega) hp) (by decide) rfl (fun r h' e _ => ?_)
      obtain ⟨rfl, rfl⟩ := e
      refine J.lreturn X dX5_odds_127 (jRl.of ?_)
      exact ⟨by rw [show s1 = s by omega], S⟩
    | succ q ih =>
      intro b s1 s2 go n h1 hd S hn hf hs12
      obtain ⟨g1, go1, n1, g2, go2, n2, s', e1, e2, hf, rfl⟩ := hf
      have a1 := e1.WG (hw.upd (by omega) _) hn
      have a2 := e2.WG a1.1 a1.2
      refine J.iload5 X dX5_odds_48 ?_
      refine J.aload0 X dX5_odds_50 ?_
      refine J.getf X dX5_odds_51 fl_X5_15_X5 (S.o) rfl ?_
      refine J.sipush (v := nI 3200) X dX5_odds_54 (by decide) ?_
      refine J.iald X dX5_odds_57 (S.r_sv) (rfl) (by omega) ?_
      refine J.topi (y := nI (k)) (by rw [tcp_lt (by omega)]; exact hcap) ?_
      refine J.icmp_gtN (tgt := 111) X dX5_odds_58 (by decide) (by omega) (by omega) (fun q9 => absurd q9 (by omega)) (fun _ => ?_)
      refine J.aload0 X dX5_odds_61 ?_
      refine J.getf X dX5_odds_62 fl_X5_11_X5 (S.o) rfl ?_
      refine J.sipush (v := nI 3201) X dX5_odds_65 (by decide) ?_
      refine J.iload5 X dX5_odds_68 ?_
      refine J.tw_g X dX5_odds_70 S (rfl) (by omega) (fun h S => ?_)
      refine J.aload0 X dX5_odds_71 ?_
      refine J.callVv X dX5_odds_72 lk_X5_86_X5 ce_X5_trim (tw_trim F S.1 (hw.upd (by omega) _) hn e1) (by decide) rfl (S.o) rfl (fun h' S' _ => ?_)
      replace S := S.tr S'
      refine J.iload4 X dX5_odds_75 ?_
      refine J.aload0 X dX5_odds_77 ?_
      refine J.iload1 X dX5_odds_78 ?_
      refine J.callVi X dX5_odds_79 lk_X5_148_X5 ce_X5_runs (tw_runs F S.1 a1.1 a1.2 (by omega) hmn hm e2) (by decide) rfl (S.o) rfl (fun r h' z _ => ?_)
      obtain ⟨rfl, S'⟩ := z
      replace S := S.tr S'
      refine J.iload2 X dX5_odds_82 ?_
      refine J.icmp_lt (tgt := 90) X dX5_odds_83 (by decide) (fun c1 => ?_) (fun c1 => ?_)
      · skip
        rw [if_neg (Int32.not_le.mpr c1)] at hs12
        refine J.iconst (v := nI 0) X dX5_odds_90 (by decide) ?_
        refine J.iaddN X dX5_odds_91 ?_
        refine J.istore4 X dX5_odds_92 ?_
        refine J.aload0 X dX5_odds_94 ?_
        refine J.getf X dX5_odds_95 fl_X5_15_X5 (S.o) rfl ?_
        refine J.aload0 X dX5_odds_98 ?_
        refine J.getf X dX5_odds_99 fl_X5_11_X5 (S.o) rfl ?_
        refine J.callSv X dX5_odds_102 lk_X5_120 ce_X5_copy (tw_cp_g F S.1) (by decide) rfl (fun h' S' _ => ?_)
        replace S := S.tr S'
        refine J.tw_same X S tcp2 (fun h S => ?_)
        refine J.iinc5N (d := 1) X dX5_odds_105 (by decide) ?_
        refine J.goto (tgt := 48) X dX5_odds_108 (by decide) ?_
        exact ih _ _ _ _ _ _ (by omega) S a2.2 hf (by omega)
      · skip
        rw [if_pos (Int32.not_lt.mp c1)] at hs12
        refine J.iconst (v := nI 1) X dX5_odds_86 (by decide) ?_
        refine J.goto (tgt := 91) X dX5_odds_87 (by decide) ?_
        refine J.iaddN X dX5_odds_91 ?_
        refine J.istore4 X dX5_odds_92 ?_
        refine J.aload0 X dX5_odds_94 ?_
        refine J.getf X dX5_odds_95 fl_X5_15_X5 (S.o) rfl ?_
        refine J.aload0 X dX5_odds_98 ?_
        refine J.getf X dX5_odds_99 fl_X5_11_X5 (S.o) rfl ?_
        refine J.callSv X dX5_odds_102 lk_X5_120 ce_X5_copy (tw_cp_g F S.1) (by decide) rfl (fun h' S' _ => ?_)
        replace S := S.tr S'
        refine J.tw_same X S tcp2 (fun h S => ?_)
        refine J.iinc5N (d := 1) X dX5_odds_105 (by decide) ?_
        refine J.goto (tgt := 48) X dX5_odds_108 (by decide) ?_
        exact ih _ _ _ _ _ _ (by omega) S a2.2 hf (by omega)
  refine J.aload0 X dX5_odds_0 ?_
  refine J.iload1 X dX5_odds_1 ?_
  refine J.callVi X dX5_odds_2 lk_X5_145_X5 ce_X5_isTrace (tw_isTrace F S.1 (nI j)) (by decide) rfl (S.o) rfl (fun r h' e _ => ?_)
  obtain ⟨rfl, rfl⟩ := e
  refine J.if_eqB (tgt := 27) X dX5_odds_5 (by decide) (fun q9 => absurd q9 (fun z => z (nat_trace hc hj))) (fun _ => ?_)
  refine J.iload2 X dX5_odds_8 ?_
  refine J.iconst (v := nI 0) X dX5_odds_9 (by decide) ?_
  refine J.bipush (v := nI 20) X dX5_odds_10 (by decide) ?_
  refine J.callSi X dX5_odds_12 lk_X5_54 ce_X5_in (tw_in F x 0 20) (by decide) rfl (fun r h' e _ => ?_)
  obtain ⟨rfl, rfl⟩ := e
  refine J.if_eqB (tgt := 27) X dX5_odds_15 (by decide) (fun q9 => absurd q9 (fun z => z hx)) (fun _ => ?_)
  refine J.iload3 X dX5_odds_18 ?_
  refine J.iconst (v := nI 0) X dX5_odds_19 (by decide) ?_
  refine J.iconst (v := nI 1) X dX5_odds_20 (by decide) ?_
  refine J.callSi X dX5_odds_21 lk_X5_54 ce_X5_in (tw_in F (nI p) 0 1) (by decide) rfl (fun r h' e _ => ?_)
  obtain ⟨rfl, rfl⟩ := e
  refine J.if_neB (tgt := 31) X dX5_odds_24 (by decide) (fun _ => ?_) (fun q9 => absurd q9 (fun z => z (nat_in (m := 1) (by decide) (by omega))))
  refine J.aload0 X dX5_odds_31 ?_
  refine J.getf X dX5_odds_32 fl_X5_11_X5 (S.o) rfl ?_
  refine J.aload0 X dX5_odds_35 ?_
  refine J.getf X dX5_odds_36 fl_X5_15_X5 (S.o) rfl ?_
  refine J.callSv X dX5_odds_39 lk_X5_120 ce_X5_copy (tw_cp_sv F S.1) (by decide) rfl (fun h' S' _ => ?_)
  replace S := S.tr S'
  refine J.iconst (v := nI 0) X dX5_odds_42 (by decide) ?_
  refine J.istore4 X dX5_odds_43 ?_
  refine J.iconst (v := nI 0) X dX5_odds_45 (by decide) ?_
  refine J.istore5 X dX5_odds_46 ?_
  exact loop (k + 1) 0 0 s _ _ _ (by omega) S hn hf (by omega)
/-- the costs of the keys at q below i -/
def tcosts (g : Nat → Int32) (cs : Nat → Nat) (q : Nat) : Nat → Nat
  | 0 => 0
  | i + 1 => tcosts g cs q i + (if wh g i = q then cs i else 0)
theorem tcosts_le {g : Nat → Int32} {cs : Nat → Nat} {q : Nat} (h : ∀ k, cs k ≤ 99) : ∀ i, tcosts g cs q i ≤ 99 * i
  | 0 => Nat.le_refl 0
  | i + 1 => by have := tcosts_le (g := g) (q := q) h i; have := h i; unfold tcosts; split <;> omega
theorem tw_mean0 {K : JK} {l : Launch} {hE : JIH} {A : Nat} {g sv kp go tx ac ky wt mn ts tz : Nat → Int32} {tp : Nat → Nat → Int64} {mv : Nat → Int64} {i0 i1 i2 i3 i4 i5 : Int32} (F : JF K) (T : TwR K hE A g sv kp go tx ac ky wt mn ts tz tp mv i0 i1 i2 i3 i4 i5) (hw : WG g) {a p : Int32} (hf : ¬ ((nI 1 ≤ a ∧ a ≤ nI 2) ∧ (nI 0 ≤ p ∧ p ≤ nI 1)) ∨ ∃ q, q ≤ 4 ∧ a = nI q ∧ tmany g q 400 = 0) :
    Ct K l yX5_mean wX5_mean 6 [.ref A, .int a, .int p] hE (jRl (fun r0 h' => r0 = tNO ∧ hE = h')) jNo := by
  refine st_X5_mean (ls := [some (.ref A), some (.int a), some (.int p), none, none]) F rfl (body := fun M X => ?_)
  have S := T.S
  refine J.iload1 X dX5_mean_0 ?_
  refine J.iconst (v := nI 1) X dX5_mean_1 (by decide) ?_
  refine J.iconst (v := nI 2) X dX5_mean_2 (by decide) ?_
  refine J.callSi X dX5_mean_3 lk_X5_54 ce_X5_in (tw_in F a 1 2) (by decide) rfl (fun r h' e _ => ?_)
  obtain ⟨rfl, rfl⟩ := e
  refine J.if_eqB (tgt := 26) X dX5_mean_6 (by decide) (fun c1 => ?_) (fun c1 => ?_)
  · skip
    refine J.ldc2 (v := (-9223372036854775808)) X dX5_mean_26 q2859 ?_
    refine J.lreturn X dX5_mean_29 (jRl.of ?_)
    exact ⟨rfl, rfl⟩
  · skip
    refine J.iload2 X dX5_mean_9 ?_
    refine J.iconst (v := nI 0) X dX5_mean_10 (by decide) ?_
    refine J.iconst (v := nI 1) X dX5_mean_11 (by decide) ?_
    refine J.callSi X dX5_mean_12 lk_X5_54 ce_X5_in (tw_in F p 0 1) (by decide) rfl (fun r h' e _ => ?_)
    obtain ⟨rfl, rfl⟩ := e
    refine J.if_eqB (tgt := 26) X dX5_mean_15 (by decide) (fun c2 => ?_) (fun c2 => ?_)
    · skip
      refine J.ldc2 (v := (-9223372036854775808)) X dX5_mean_26 q2859 ?_
      refine J.lreturn X dX5_mean_29 (jRl.of ?_)
      exact ⟨rfl, rfl⟩
    · skip
      rcases hf with hf | ⟨q, hq, rfl, hq0⟩
      · exact absurd ⟨c1, c2⟩ hf
      refine J.aload0 X dX5_mean_18 ?_
      refine J.iload1 X dX5_mean_19 ?_
      refine J.callVi X dX5_mean_20 lk_X5_158_X5 ce_X5_manyAt (tw_manyAt F S.1 hw hq) (by decide) rfl (S.o) rfl (fun r h' e _ => ?_)
      obtain ⟨rfl, rfl⟩ := e
      refine J.if_neN (tgt := 30) X dX5_mean_23 (by decide) (by omega) (fun q9 => absurd q9 (by omega)) (fun _ => ?_)
      refine J.ldc2 (v := (-9223372036854775808)) X dX5_mean_26 q2859 ?_
      refine J.lreturn X dX5_mean_29 (jRl.of ?_)
      exact ⟨rfl, rfl⟩
theorem tw_mean {K : JK} {l : Launch} {hE : JIH} {A : Nat} {g sv kp go tx ac ky wt mn ts tz : Nat → Int32} {tp : Nat → Nat → Int64} {mv : Nat → Int64} {i0 i1 i2 i3 i4 i5 : Int32} (F : JF K) (T : TwR K hE A g sv kp go tx ac ky wt mn ts tz tp mv i0 i1 i2 i3 i4 i5) (hw : WG g) {q p : Nat} (hq1 : 1 ≤ q) (hq2 : q ≤ 2) (hp : p < 2) (hm : 0 < tmany g q 400) {cs : Nat → Nat} (hcs : ∀ k, cs k ≤ 99) (hc : ∀ k, k < 400 → wh g k = q → g (1200 + k) = nI (cs k)) :
    Ct K l yX5_mean wX5_mean 6 [.ref A, .int (nI q), .int (nI p)] hE (jRl (fun r0 h' => r0 = lN ((if p = 0 then tcosts g cs q 400 else tmany g q 400) / Nat.gcd (tcosts g cs q 400) (tmany g q 400)) ∧ hE = h')) jNo := by
  have hsum := tcosts_le (g := g) (q := q) hcs 400
  have hmle := tmany_le g q 400
  refine st_X5_mean (ls := [some (.ref A), some (.int (nI q)), some (.int (nI p)), none, none]) F rfl (body := fun M X => ?_)
  have S := T.S
  have loop : ∀ n i, i + n = 400 → J M hE 35 [some (.ref A), some (.int (nI q)), some (.int (nI p)), some (.int (nI (tcosts g cs q i))), some (.int (nI i))] [] := by
    intro n
    induction n with
    | zero =>
      intro i hi
      refine J.iload4 X dX5_mean_35 ?_
      refine J.sipush (v := nI 400) X dX5_mean_37 (by decide) ?_
      refine J.icmp_geN (tgt := 80) X dX5_mean_40 (by decide) (by omega) (by omega) (fun _ => ?_) (fun q9 => absurd q9 (by omega))
      refine J.iload3 X dX5_mean_80 ?_
      refine J.aload0 X dX5_mean_81 ?_
      refine J.iload1 X dX5_mean_82 ?_
      refine J.callVi X dX5_mean_83 lk_X5_158_X5 ce_X5_manyAt (tw_manyAt F S.1 hw (by omega)) (by decide) rfl (S.o) rfl (fun r h' e _ => ?_)
      obtain ⟨rfl, rfl⟩ := e
      refine J.iload2 X dX5_mean_86 ?_
      have hi4 : i = 400 := by omega
      subst hi4
      refine J.callSl X dX5_mean_87 lk_X5_154 ce_X5_part (tw_part F (by omega) (by omega) hm hp) (by decide) rfl (fun r h' e _ => ?_)
      obtain ⟨rfl, rfl⟩ := e
      refine J.lreturn X dX5_mean_90 (jRl.of ?_)
      exact ⟨rfl, rfl⟩
    | succ n ih =>
      intro i hi
      have hi4 : i < 400 := by omega
      have hwi := (hw i hi4).1
      have nxt := ih (i + 1) (by omega)
      refine J.iload4 X dX5_mean_35 ?_
      refine J.sipush (v := nI 400) X dX5_mean_37 (by decide) ?_
      refine J.icmp_geN (tgt := 80) X dX5_mean_40 (by decide) (by omega) (by omega) (fun q9 => absurd q9 (by omega)) (fun _ => ?_)
      refine J.iload3 X dX5_mean_43 ?_
      refine J.aload0 X dX5_mean_44 ?_
      refine J.getf X dX5_mean_45 fl_X5_11_X5 (S.o) rfl ?_
      refine J.iconst (v := nI 0) X dX5_mean_48 (by decide) ?_
      refine J.iload4 X dX5_mean_49 ?_
      refine J.iadd0N X dX5_mean_51 ?_
      refine J.iald X dX5_mean_52 (S.r_g) (rfl) (by omega) ?_
      refine J.topi (y := nI (wh g i)) ((hw i hi4).2) ?_
      refine J.iload1 X dX5_mean_53 ?_
      refine J.icmp_neN (tgt := 71) X dX5_mean_54 (by decide) (by omega) (by omega) (fun c2 => ?_) (fun c2 => ?_)
      · skip
        refine J.iconst (v := nI 0) X dX5_mean_71 (by decide) ?_
        refine J.iaddN X dX5_mean_72 ?_
        refine J.istore3 X dX5_mean_73 ?_
        refine J.iinc4N (d := 1) X dX5_mean_74 (by decide) ?_
        refine J.goto (tgt := 35) X dX5_mean_77 (by decide) ?_
        rw [show tcosts g cs q (i + 1) = tcosts g cs q i + 0 by show _ + _ = _; rw [if_neg c2]] at nxt
        exact nxt
      · skip
        refine J.aload0 X dX5_mean_57 ?_
        refine J.getf X dX5_mean_58 fl_X5_11_X5 (S.o) rfl ?_
        refine J.sipush (v := nI 1200) X dX5_mean_61 (by decide) ?_
        refine J.iload4 X dX5_mean_64 ?_
        refine J.iaddN X dX5_mean_66 ?_
        refine J.iald X dX5_mean_67 (S.r_g) (rfl) (by omega) ?_
        refine J.topi (y := nI (cs i)) (hc i hi4 c2) ?_
        refine J.goto (tgt := 72) X dX5_mean_68 (by decide) ?_
        refine J.iaddN X dX5_mean_72 ?_
        refine J.istore3 X dX5_mean_73 ?_
        refine J.iinc4N (d := 1) X dX5_mean_74 (by decide) ?_
        refine J.goto (tgt := 35) X dX5_mean_77 (by decide) ?_
        rw [show tcosts g cs q (i + 1) = tcosts g cs q i + cs i by show _ + _ = _; rw [if_pos c2]] at nxt
        exact nxt
  refine J.iload1 X dX5_mean_0 ?_
  refine J.iconst (v := nI 1) X dX5_mean_1 (by decide) ?_
  refine J.iconst (v := nI 2) X dX5_mean_2 (by decide) ?_
  refine J.callSi X dX5_mean_3 lk_X5_54 ce_X5_in (tw_in F (nI q) 1 2) (by decide) rfl (fun r h' e _ => ?_)
  obtain ⟨rfl, rfl⟩ := e
  refine J.if_eqB (tgt := 26) X dX5_mean_6 (by decide) (fun q9 => absurd q9 (fun z => z ⟨nI_le (a := 1) (b := q) hq1 (by omega), nI_le (a := q) (b := 2) hq2 (by decide)⟩)) (fun _ => ?_)
  refine J.iload2 X dX5_mean_9 ?_
  refine J.iconst (v := nI 0) X dX5_mean_10 (by decide) ?_
  refine J.iconst (v := nI 1) X dX5_mean_11 (by decide) ?_
  refine J.callSi X dX5_mean_12 lk_X5_54 ce_X5_in (tw_in F (nI p) 0 1) (by decide) rfl (fun r h' e _ => ?_)
  obtain ⟨rfl, rfl⟩ := e
  refine J.if_eqB (tgt := 26) X dX5_mean_15 (by decide) (fun q9 => absurd q9 (fun z => z (nat_in (m := 1) (by decide) (by omega)))) (fun _ => ?_)
  refine J.aload0 X dX5_mean_18 ?_
  refine J.iload1 X dX5_mean_19 ?_
  refine J.callVi X dX5_mean_20 lk_X5_158_X5 ce_X5_manyAt (tw_manyAt F S.1 hw (by omega)) (by decide) rfl (S.o) rfl (fun r h' e _ => ?_)
  obtain ⟨rfl, rfl⟩ := e
  refine J.if_neN (tgt := 30) X dX5_mean_23 (by decide) (by omega) (fun _ => ?_) (fun q9 => absurd q9 (by omega))
  refine J.iconst (v := nI 0) X dX5_mean_30 (by decide) ?_
  refine J.istore3 X dX5_mean_31 ?_
  refine J.iconst (v := nI 0) X dX5_mean_32 (by decide) ?_
  refine J.istore4 X dX5_mean_33 ?_
  exact loop 400 0 rfl
