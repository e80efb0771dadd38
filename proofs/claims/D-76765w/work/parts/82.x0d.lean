/-! SegmentedCache: key, told, count, gone -/
theorem ge0_nI {k : Int32} (h : ¬ k < 0) : ∃ n, n < 2147483648 ∧ k = nI n := by
  have h1 : 0 ≤ k.toInt := by
    rw [Int32.lt_iff_toInt_lt] at h
    have e1 : (0 : Int32).toInt = 0 := by decide
    omega
  have h2 := Int32.toInt_lt k
  refine ⟨k.toInt.toNat, by omega, ?_⟩
  apply Int32.toInt_inj.mp
  rw [nI_toInt (by omega)]
  omega
def gkey (g : GA) (q k : Int32) (r : Int32) : Prop := (¬ ((nI 1 ≤ q ∧ q ≤ nI 4) ∧ ¬ k < 0) ∧ r = -1) ∨ (∃ i n, aq i ∧ q = nI i ∧ n < 2147483648 ∧ k = nI n ∧ r = oel ((g.x.1.1 i)[n]?) (-5) (fun z => nI z))
theorem x_key {K : JK} {l : Launch} {hE : JIH} {o : Nat} {p : GP} {g : GA} {tz tzi : Nat}  (F : JF K) (S : GX K hE o p g tz tzi) {q k r : Int32} (hf : gkey g q k r) (rm : RM hE tz 23) :
    Ct K l yX0_key wX0_key 12 [.ref o, .int q, .int k] hE (jRi (fun r0 h' => r0 = r ∧ GX K h' o p g tz tzi ∧ hres h' ≤ hres hE + 23 ∧ Fr n5 hE h')) jNo := by
  have so := S.o.1
  have hB := S.bc
  obtain ⟨ta, D, S1⟩ := S.cc
  have co := S1.o.1
  rcases hf with ⟨hn, rfl⟩ | ⟨i, n, hi, rfl, hn, rfl, rfl⟩
  · refine st_X0_key (ls := [some (.ref o), some (.int q), some (.int k)]) F rfl (body := fun M X => ?_)
    refine J.iload1 X dX0_key_0 ?_
    refine J.iconst (v := nI 1) X dX0_key_1 (by decide) ?_
    refine J.iconst (v := nI 4) X dX0_key_2 (by decide) ?_
    refine J.callSi X dX0_key_3 lk_X0_5 ce_X0_in (x_in F q 1 4) (by decide) rfl (fun r0 h' e _ => ?_)
    obtain ⟨rfl, rfl⟩ := e
    refine J.if_eqB (tgt := 28) X dX0_key_6 (by decide) (fun c1 => ?_) (fun c1 => ?_)
    · skip
      refine J.iconst (v := -1) X dX0_key_28 (by decide) ?_
      refine J.zreturn X dX0_key_29 (rfl) (jRi.of ?_)
      exact ⟨rfl, S, by omega, Fr.rf _ _⟩
    · skip
      refine J.iload2 X dX0_key_9 ?_
      refine J.if_lt (tgt := 28) X dX0_key_10 (by decide) (fun _ => ?_) (fun q9 => absurd q9 (fun z => hn ⟨c1, z⟩))
      refine J.iconst (v := -1) X dX0_key_28 (by decide) ?_
      refine J.zreturn X dX0_key_29 (rfl) (jRi.of ?_)
      exact ⟨rfl, S, by omega, Fr.rf _ _⟩
  · have hi1 := hi.1
    have hi4 := hi.2
    refine st_X0_key (ls := [some (.ref o), some (.int (nI i)), some (.int (nI n))]) F rfl (body := fun M X => ?_)
    refine J.iload1 X dX0_key_0 ?_
    refine J.iconst (v := nI 1) X dX0_key_1 (by decide) ?_
    refine J.iconst (v := nI 4) X dX0_key_2 (by decide) ?_
    refine J.callSi X dX0_key_3 lk_X0_5 ce_X0_in (x_in F (nI i) 1 4) (by decide) rfl (fun r0 h' e _ => ?_)
    obtain ⟨rfl, rfl⟩ := e
    refine J.if_eqB (tgt := 28) X dX0_key_6 (by decide) (fun q9 => absurd q9 (fun z => z ⟨nI_le (a := 1) hi1 (by omega), nI_le (b := 4) hi4 (by decide)⟩)) (fun _ => ?_)
    refine J.iload2 X dX0_key_9 ?_
    refine J.if_ltN (tgt := 28) X dX0_key_10 (by decide) (by omega) ?_
    have qo := S1.q hi
    have S1' := S1
    obtain ⟨P, eP, R, A, hG⟩ := S1
    refine J.aload0 X dX0_key_13 ?_
    refine J.getf X dX0_key_14 fl_X0_18_X0 (so) rfl ?_
    refine J.iload1 X dX0_key_17 ?_
    refine J.callVa X dX0_key_18 lk_X0_102_X1 ce_X1_queue (k_queue F S1' hi) (by decide) rfl (co) rfl (fun r0 h2 e _ => ?_)
    obtain ⟨rfl, rfl⟩ := e
    refine J.iload2 X dX0_key_21 ?_
    refine J.callVi X dX0_key_22 lk_X0_192_X2 ce_X2_at (q_at F R hi hn rm) (by decide) rfl (qo.1) rfl (fun r0 h3 e _ => ?_)
    obtain ⟨rfl, R2, cf⟩ := e
    refine J.goto (tgt := 29) X dX0_key_25 (by decide) ?_
    refine J.zreturn X dX0_key_29 (rfl) (jRi.of ?_)
    refine ⟨rfl, S.up0 (x' := g.x) cf.1.1 (fun z hz => Or.inl hz) ⟨ta, D, P, eP, R2, A, hG⟩ hB, ?_, cf.1.1.mono (fun z hz => CT.n5 hz (Or.inl rfl))⟩
    have := cf.2
    omega
theorem x_setting {K : JK} {l : Launch} {hE : JIH} {o : Nat} {p : GP} {g : GA} {tz tzi : Nat}  (F : JF K) (S : GX K hE o p g tz tzi) {j : Nat} (hj : j ≤ 3) :
    Ct K l yX0_setting wX0_setting 0 [.ref o, .int (nI j)] hE (jRi (fun r0 h' => r0 = nI (g.x.2.1 j) ∧ hE = h')) jNo := by
  have so := S.o.1
  obtain ⟨ta, D, S1⟩ := S.cc
  have co := S1.o.1
  refine st_X0_setting (ls := [some (.ref o), some (.int (nI j))]) F rfl (body := fun M X => ?_)
  refine J.iload1 X dX0_setting_0 ?_
  rcases (show j = 0 ∨ j = 1 ∨ j = 2 ∨ j = 3 by omega) with rfl | rfl | rfl | rfl
  · skip
    refine J.tsIn (off := 27) (tgt := 28) X dX0_setting_1 (by decide) (by decide) (by decide) (by decide) ?_
    refine J.aload0 X dX0_setting_28 ?_
    refine J.getf X dX0_setting_29 fl_X0_18_X0 (so) rfl ?_
    refine J.getf X dX0_setting_32 fl_X0_73_X1 (co) rfl ?_
    refine J.zreturn X dX0_setting_35 (rfl) (jRi.of ?_)
    exact ⟨rfl, rfl⟩
  · skip
    refine J.tsIn (off := 35) (tgt := 36) X dX0_setting_1 (by decide) (by decide) (by decide) (by decide) ?_
    refine J.aload0 X dX0_setting_36 ?_
    refine J.getf X dX0_setting_37 fl_X0_18_X0 (so) rfl ?_
    refine J.getf X dX0_setting_40 fl_X0_77_X1 (co) rfl ?_
    refine J.zreturn X dX0_setting_43 (rfl) (jRi.of ?_)
    exact ⟨rfl, rfl⟩
  · skip
    refine J.tsIn (off := 43) (tgt := 44) X dX0_setting_1 (by decide) (by decide) (by decide) (by decide) ?_
    refine J.aload0 X dX0_setting_44 ?_
    refine J.getf X dX0_setting_45 fl_X0_18_X0 (so) rfl ?_
    refine J.getf X dX0_setting_48 fl_X0_80_X1 (co) rfl ?_
    refine J.zreturn X dX0_setting_51 (rfl) (jRi.of ?_)
    exact ⟨rfl, rfl⟩
  · refine J.tsOut (tgt := 52) X dX0_setting_1 (by decide) (by decide) ?_
    refine J.aload0 X dX0_setting_52 ?_
    refine J.getf X dX0_setting_53 fl_X0_18_X0 (so) rfl ?_
    refine J.getf X dX0_setting_56 fl_X0_83_X1 (co) rfl ?_
    refine J.zreturn X dX0_setting_59 (rfl) (jRi.of ?_)
    exact ⟨rfl, rfl⟩
def gtold (g : GA) (a : Int32) (r : Int32) : Prop := (¬ (nI 0 ≤ a ∧ a ≤ nI 13) ∧ r = -1) ∨ ∃ j, j ≤ 13 ∧ a = nI j ∧ r = if j < 4 then nI (g.x.2.1 j) else if j < 8 then nI (wsum g.x.1 (j - 3)) else nI (g.x.2.1 (j - 4))
theorem x_told {K : JK} {l : Launch} {hE : JIH} {o : Nat} {p : GP} {g : GA} {tz tzi : Nat}  (F : JF K) (S : GX K hE o p g tz tzi) {a r : Int32} (hf : gtold g a r) :
    Ct K l yX0_told wX0_told 12 [.ref o, .int a] hE (jRi (fun r0 h' => r0 = r ∧ hE = h')) jNo := by
  have so := S.o.1
  obtain ⟨ta, D, S1⟩ := S.cc
  have co := S1.o.1
  refine st_X0_told (ls := [some (.ref o), some (.int a)]) F rfl (body := fun M X => ?_)
  refine J.iload1 X dX0_told_0 ?_
  rcases hf with ⟨q, rfl⟩ | ⟨j, hj, rfl, rfl⟩
  · skip
    refine J.tsOut (tgt := 140) X dX0_told_1 (ts_out (m := 13) (by decide) q) (by decide) ?_
    refine J.iconst (v := -1) X dX0_told_140 (by decide) ?_
    refine J.zreturn X dX0_told_141 (rfl) (jRi.of ?_)
    exact ⟨rfl, rfl⟩
  have l1 : j ≤ 3 → J M hE 72 [some (.ref o), some (.int (nI j))] [] := fun h3 => by
    refine J.aload0 X dX0_told_72 ?_
    refine J.iload1 X dX0_told_73 ?_
    refine J.callVi X dX0_told_74 lk_X0_89_X0 ce_X0_setting (x_setting F S h3) (by decide) rfl (so) rfl (fun r0 h' e _ => ?_)
    obtain ⟨rfl, rfl⟩ := e
    refine J.zreturn X dX0_told_77 (rfl) (jRi.of ?_)
    exact ⟨by rw [if_pos (by omega)], rfl⟩
  have l2 : 4 ≤ j → j < 8 → J M hE 78 [some (.ref o), some (.int (nI j))] [] := fun h4 h8 => by
    have hi : aq (j - 3) := ⟨by omega, by omega⟩
    have qo := S1.q hi
    refine J.aload0 X dX0_told_78 ?_
    refine J.getf X dX0_told_79 fl_X0_18_X0 (so) rfl ?_
    refine J.iload1 X dX0_told_82 ?_
    refine J.iconst (v := nI 3) X dX0_told_83 (by decide) ?_
    refine J.isubN X dX0_told_84 (by omega) ?_
    refine J.callVa X dX0_told_85 lk_X0_102_X1 ce_X1_queue (k_queue F S1 hi) (by decide) rfl (co) rfl (fun r0 h2 e _ => ?_)
    obtain ⟨rfl, rfl⟩ := e
    refine J.getf X dX0_told_88 fl_X0_106_X2 (qo.1) rfl ?_
    refine J.zreturn X dX0_told_91 (rfl) (jRi.of ?_)
    exact ⟨by rw [if_neg (by omega), if_pos (by omega)]; rfl, rfl⟩
  rcases (show j ≤ 3 ∨ (4 ≤ j ∧ j < 8) ∨ j = 8 ∨ j = 9 ∨ j = 10 ∨ j = 11 ∨ j = 12 ∨ j = 13 by omega) with h3 | ⟨h4, h8⟩ | rfl | rfl | rfl | rfl | rfl | rfl
  · have q1 := l1 h3
    rcases (show j = 0 ∨ j = 1 ∨ j = 2 ∨ j = 3 by omega) with rfl | rfl | rfl | rfl
    · skip
      refine J.tsIn (off := 71) (tgt := 72) X dX0_told_1 (by decide) (by decide) (by decide) (by decide) ?_
      exact q1
    · skip
      refine J.tsIn (off := 71) (tgt := 72) X dX0_told_1 (by decide) (by decide) (by decide) (by decide) ?_
      exact q1
    · skip
      refine J.tsIn (off := 71) (tgt := 72) X dX0_told_1 (by decide) (by decide) (by decide) (by decide) ?_
      exact q1
    · skip
      refine J.tsIn (off := 71) (tgt := 72) X dX0_told_1 (by decide) (by decide) (by decide) (by decide) ?_
      exact q1
  · have q1 := l2 h4 h8
    rcases (show j = 4 ∨ j = 5 ∨ j = 6 ∨ j = 7 by omega) with rfl | rfl | rfl | rfl
    · skip
      refine J.tsIn (off := 77) (tgt := 78) X dX0_told_1 (by decide) (by decide) (by decide) (by decide) ?_
      exact q1
    · skip
      refine J.tsIn (off := 77) (tgt := 78) X dX0_told_1 (by decide) (by decide) (by decide) (by decide) ?_
      exact q1
    · skip
      refine J.tsIn (off := 77) (tgt := 78) X dX0_told_1 (by decide) (by decide) (by decide) (by decide) ?_
      exact q1
    · skip
      refine J.tsIn (off := 77) (tgt := 78) X dX0_told_1 (by decide) (by decide) (by decide) (by decide) ?_
      exact q1
  · skip
    refine J.tsIn (off := 91) (tgt := 92) X dX0_told_1 (by decide) (by decide) (by decide) (by decide) ?_
    refine J.aload0 X dX0_told_92 ?_
    refine J.getf X dX0_told_93 fl_X0_18_X0 (so) rfl ?_
    refine J.getf X dX0_told_96 fl_X0_111_X1 (co) rfl ?_
    refine J.zreturn X dX0_told_99 (rfl) (jRi.of ?_)
    exact ⟨rfl, rfl⟩
  · skip
    refine J.tsIn (off := 99) (tgt := 100) X dX0_told_1 (by decide) (by decide) (by decide) (by decide) ?_
    refine J.aload0 X dX0_told_100 ?_
    refine J.getf X dX0_told_101 fl_X0_18_X0 (so) rfl ?_
    refine J.getf X dX0_told_104 fl_X0_114_X1 (co) rfl ?_
    refine J.zreturn X dX0_told_107 (rfl) (jRi.of ?_)
    exact ⟨rfl, rfl⟩
  · skip
    refine J.tsIn (off := 107) (tgt := 108) X dX0_told_1 (by decide) (by decide) (by decide) (by decide) ?_
    refine J.aload0 X dX0_told_108 ?_
    refine J.getf X dX0_told_109 fl_X0_18_X0 (so) rfl ?_
    refine J.getf X dX0_told_112 fl_X0_117_X1 (co) rfl ?_
    refine J.zreturn X dX0_told_115 (rfl) (jRi.of ?_)
    exact ⟨rfl, rfl⟩
  · skip
    refine J.tsIn (off := 115) (tgt := 116) X dX0_told_1 (by decide) (by decide) (by decide) (by decide) ?_
    refine J.aload0 X dX0_told_116 ?_
    refine J.getf X dX0_told_117 fl_X0_18_X0 (so) rfl ?_
    refine J.getf X dX0_told_120 fl_X0_120_X1 (co) rfl ?_
    refine J.zreturn X dX0_told_123 (rfl) (jRi.of ?_)
    exact ⟨rfl, rfl⟩
  · skip
    refine J.tsIn (off := 123) (tgt := 124) X dX0_told_1 (by decide) (by decide) (by decide) (by decide) ?_
    refine J.aload0 X dX0_told_124 ?_
    refine J.getf X dX0_told_125 fl_X0_18_X0 (so) rfl ?_
    refine J.getf X dX0_told_128 fl_X0_123_X1 (co) rfl ?_
    refine J.zreturn X dX0_told_131 (rfl) (jRi.of ?_)
    exact ⟨rfl, rfl⟩
  · skip
    refine J.tsIn (off := 131) (tgt := 132) X dX0_told_1 (by decide) (by decide) (by decide) (by decide) ?_
    refine J.aload0 X dX0_told_132 ?_
    refine J.getf X dX0_told_133 fl_X0_18_X0 (so) rfl ?_
    refine J.getf X dX0_told_136 fl_X0_126_X1 (co) rfl ?_
    refine J.zreturn X dX0_told_139 (rfl) (jRi.of ?_)
    exact ⟨rfl, rfl⟩
