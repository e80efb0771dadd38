/-! SegmentedCache: set -/
def gsetOk (C : Nat → Nat) (j : Nat) (x : Int32) : Prop := nI (bdN (2 * j)) ≤ x ∧ x ≤ nI (if j = 1 then C 0 else bdN (2 * j + 1))
def gset (fu : Nat) (g : GA) (a x r : Int32) (g' : GA) : Prop := (¬ (nI 0 ≤ a ∧ a ≤ nI 3) ∧ r = -1 ∧ g' = g) ∨ ∃ j, j ≤ 3 ∧ a = nI j ∧ ((¬ gsetOk g.x.2.1 j x ∧ r = -2 ∧ g' = g) ∨ (gsetOk g.x.2.1 j x ∧ r = nI (g.x.2.1 j) ∧ ∃ n, x = nI n ∧ n ≤ 99 ∧ ((j = 0 ∧ 1 ≤ n ∧ ∃ s' gs, atrim n (min n (g.x.2.1 1)) fu g.x.1 s' gs ∧ g' = g.wx (s', va_up (va_up (va_up g.x.2.1 0 n) 1 (min n (g.x.2.1 1))) 9 (g.x.2.1 9 + gs.length), (gs ++ g.x.2.2).take 20)) ∨ (j = 1 ∧ n ≤ g.x.2.1 0 ∧ ∃ s' gs, atrim (g.x.2.1 0) n fu g.x.1 s' gs ∧ g' = g.wx (s', va_up (va_up g.x.2.1 1 n) 9 (g.x.2.1 9 + gs.length), (gs ++ g.x.2.2).take 20)) ∨ (j = 2 ∧ 1 ≤ n ∧ n ≤ 9 ∧ g' = g.wx (g.x.1, va_up g.x.2.1 2 n, g.x.2.2)) ∨ (j = 3 ∧ n ≤ 9 ∧ g' = g.wx (g.x.1, va_up g.x.2.1 3 n, g.x.2.2)))))
theorem x_set {K : JK} {l : Launch} {hE : JIH} {o : Nat} {p : GP} {g : GA} {tz tzi : Nat} (F : JF K) (S : GX K hE o p g tz tzi) {PL : List Nat} (hp : TP g.x.1 PL) {fu : Nat} {a x r : Int32} {g' : GA} (hf : gset fu g a x r g') (rm : RM hE tz (Phi g.x.1 * cst PL.length + 6 * cst PL.length)) :
    Ct K l yX0_set wX0_set 12 [.ref o, .int a, .int x] hE (jRi (fun r0 h' => r0 = r ∧ (∃ tz', GX K h' o p g' tz' tzi ∧ hres h' + tz + Phi g'.x.1 * cst PL.length ≤ hres hE + (Phi g.x.1 * cst PL.length + 4 * cst PL.length) + tz') ∧ Fr n5 hE h')) jNo := by
  have so := S.o
  obtain ⟨ta, D, S1⟩ := S.cc
  have hB := S.bc
  have co := S1.o
  have A := S1.aw
  obtain ⟨bt, bZ, bT⟩ := jbounds F
  have same : ∀ {r0 : Int32}, r0 = r → g' = g → r0 = r ∧ (∃ tz', GX K hE o p g' tz' tzi ∧ hres hE + tz + Phi g'.x.1 * cst PL.length ≤ hres hE + (Phi g.x.1 * cst PL.length + 4 * cst PL.length) + tz') ∧ Fr n5 hE hE := fun e1 e2 => by
    subst e2
    exact ⟨e1, ⟨tz, S, by omega⟩, Fr.rf _ _⟩
  have np := hp.np A
  refine st_X0_set (ls := [some (.ref o), some (.int a), some (.int x), none]) F rfl (body := fun M X => ?_)
  refine J.iload1 X dX0_set_0 ?_
  refine J.iconst (v := nI 0) X dX0_set_1 (by decide) ?_
  refine J.iconst (v := nI 3) X dX0_set_2 (by decide) ?_
  refine J.callSi X dX0_set_3 lk_X0_5 ce_X0_in (x_in F a 0 3) (by decide) rfl (fun r0 h2 e _ => ?_)
  obtain ⟨rfl, rfl⟩ := e
  rcases hf with ⟨q, e1, e2⟩ | ⟨j, hj, rfl, hf⟩
  · skip
    refine J.if_neB (tgt := 11) X dX0_set_6 (by decide) (fun q9 => absurd q9 (q)) (fun _ => ?_)
    refine J.iconst (v := -1) X dX0_set_9 (by decide) ?_
    refine J.zreturn X dX0_set_10 (rfl) (jRi.of ?_)
    exact same e1.symm e2
  refine J.if_neB (tgt := 11) X dX0_set_6 (by decide) (fun _ => ?_) (fun q9 => absurd q9 (fun z => z ⟨nI_le (a := 0) (Nat.zero_le _) (by omega), nI_le (b := 3) hj (by decide)⟩))
  refine J.iload2 X dX0_set_11 ?_
  refine J.gets X dX0_set_12 q487 bZ ?_
  refine J.iconst (v := nI 2) X dX0_set_15 (by decide) ?_
  refine J.iload1 X dX0_set_16 ?_
  refine J.imulN X dX0_set_17 ?_
  refine J.tald X dX0_set_18 bT rfl (by omega) (by decide) rfl ?_
  refine J.iload1 X dX0_set_19 ?_
  refine J.iconst (v := nI 1) X dX0_set_20 (by decide) ?_
  have mid : ∀ hi : Nat, hi = (if j = 1 then g.x.2.1 0 else bdN (2 * j + 1)) → J M hE 43 [some (.ref o), some (.int (nI j)), some (.int x), none] [.int (nI hi), .int (nI (bdN (2 * j))), .int x] := fun hi hhi => by
    refine J.callSi X dX0_set_43 lk_X0_5 ce_X0_in (x_in F x (nI (bdN (2 * j))) (nI hi)) (by decide) rfl (fun r0 h2 e _ => ?_)
    obtain ⟨rfl, rfl⟩ := e
    subst hhi
    rcases hf with ⟨q, e1, e2⟩ | ⟨q, rfl, n, rfl, hn, hf⟩
    · skip
      refine J.if_neB (tgt := 52) X dX0_set_46 (by decide) (fun q9 => absurd q9 (q)) (fun _ => ?_)
      refine J.bipush (v := -2) X dX0_set_49 (by decide) ?_
      refine J.zreturn X dX0_set_51 (rfl) (jRi.of ?_)
      exact same e1.symm e2
    refine J.if_neB (tgt := 52) X dX0_set_46 (by decide) (fun _ => ?_) (fun q9 => absurd q9 (fun z => z q))
    refine J.aload0 X dX0_set_52 ?_
    refine J.iload1 X dX0_set_53 ?_
    refine J.callVi X dX0_set_54 lk_X0_89_X0 ce_X0_setting (x_setting F S hj) (by decide) rfl (so.1) rfl (fun r0 h2 e _ => ?_)
    obtain ⟨rfl, rfl⟩ := e
    refine J.istore3 X dX0_set_57 ?_
    refine J.iload1 X dX0_set_58 ?_
    have fin : ∀ (C' : Nat → Nat), BC C' → ∀ (s' : AS) (gs : List Nat), j < 2 → atrim (C' 0) (C' 1) fu g.x.1 s' gs → g' = g.wx (s', va_up C' 9 (C' 9 + gs.length), (gs ++ g.x.2.2).take 20) → J M (hset hE p.c (jO 1 (caO C' p.y (bS g.x.1)))) 143 [some (.ref o), some (.int (nI j)), some (.int (nI n)), some (.int (nI (g.x.2.1 j)))] [] := fun C' hB' s' gs h2 hT e2 => by
      subst e2
      have S2 := S1.wo C'
      have f2 := S1.woF C'
      have so2 := so.fr f2.1.1 (by unfold CT; omega)
      generalize hset hE p.c (jO 1 (caO C' p.y (bS g.x.1))) = h2 at S2 f2 so2
      refine J.iload1 X dX0_set_143 ?_
      refine J.iconst (v := nI 2) X dX0_set_144 (by decide) ?_
      refine J.icmp_geN (tgt := 155) X dX0_set_145 (by decide) (by omega) (by omega) (fun q9 => absurd q9 (by omega)) (fun _ => ?_)
      refine J.aload0 X dX0_set_148 ?_
      refine J.getf X dX0_set_149 fl_X0_18_X0 (so2.1) rfl ?_
      refine J.callVv X dX0_set_152 lk_X0_99_X1 ce_X1_trims (k_trims F S2 (by have := hB'.1; omega) (by have := hB'.1; have := hB'.2.1; omega) np hT (f2.rm rm (by omega))) (by decide) rfl (S2.o.1) rfl (fun h3 e _ => ?_)
      obtain ⟨ta', D', tz', S3, cg, -⟩ := e
      refine J.iload3 X dX0_set_155 ?_
      refine J.zreturn X dX0_set_156 (rfl) (jRi.of ?_)
      refine ⟨rfl, ⟨tz', S.up0 (f2.1.1.tr cg.1.1) (fun z hz => Or.inl hz) ⟨ta', D', S3⟩ (hB'.up (by decide) _), ?_⟩, (f2.1.1.tr cg.1.1).mono (fun z hz => CT.n5 hz (Or.inl rfl))⟩
      have h5 := cg.2
      have h6 := f2.2
      show hres h3 + tz + Phi s' * cst PL.length ≤ _
      omega
    have fin2 : ∀ (C' : Nat → Nat), BC C' → 2 ≤ j → g' = g.wx (g.x.1, C', g.x.2.2) → J M (hset hE p.c (jO 1 (caO C' p.y (bS g.x.1)))) 143 [some (.ref o), some (.int (nI j)), some (.int (nI n)), some (.int (nI (g.x.2.1 j)))] [] := fun C' hB' h2 e2 => by
      subst e2
      have S2 := S1.wo C'
      have f2 := S1.woF C'
      generalize hset hE p.c (jO 1 (caO C' p.y (bS g.x.1))) = h2 at S2 f2
      refine J.iload1 X dX0_set_143 ?_
      refine J.iconst (v := nI 2) X dX0_set_144 (by decide) ?_
      refine J.icmp_geN (tgt := 155) X dX0_set_145 (by decide) (by omega) (by omega) (fun _ => ?_) (fun q9 => absurd q9 (by omega))
      refine J.iload3 X dX0_set_155 ?_
      refine J.zreturn X dX0_set_156 (rfl) (jRi.of ?_)
      refine ⟨rfl, ⟨tz, S.up0 f2.1.1 (fun z hz => Or.inl hz) ⟨ta, D, S2⟩ hB', ?_⟩, f2.1.1.mono (fun z hz => CT.n5 hz (Or.inl rfl))⟩
      have h6 := f2.2
      show hres h2 + tz + Phi g.x.1 * cst PL.length ≤ _
      omega
    have hne : p.c ≠ o := co.apT so (by decide)
    have so1 : ∀ e, hget (hset hE p.c e) o = some (jO 0 (x0O p g)) := fun e => (so.ne e hne).1
    have cs1 : ∀ e, hget (hset hE p.c e) p.c = some e := fun e => hget_set_same e co.1
    have c0 := co.1
    rcases hf with ⟨rfl, h1, s', gs, hT, e2⟩ | ⟨rfl, h1, s', gs, hT, e2⟩ | ⟨rfl, h1, h9, e2⟩ | ⟨rfl, h9, e2⟩
    · skip
      refine J.tsIn (off := 25) (tgt := 84) X dX0_set_59 (by decide) (by decide) (by decide) (by decide) ?_
      refine J.fresh c0 ?_
      refine J.aload0 X dX0_set_84 ?_
      refine J.getf X dX0_set_85 fl_X0_18_X0 (so1 _) rfl ?_
      refine J.iload2 X dX0_set_88 ?_
      refine J.putfS X dX0_set_89 (pl_X0_73_X1 _) (c0) (Nat.le_of_ble_eq_true rfl) (rfl) (rfl) ?_
      refine J.aload0 X dX0_set_92 ?_
      refine J.getf X dX0_set_93 fl_X0_18_X0 (so1 _) rfl ?_
      refine J.iload2 X dX0_set_96 ?_
      refine J.aload0 X dX0_set_97 ?_
      refine J.getf X dX0_set_98 fl_X0_18_X0 (so1 _) rfl ?_
      refine J.getf X dX0_set_101 fl_X0_77_X1 (cs1 _) rfl ?_
      refine J.mmin X dX0_set_104 q493 (by decide) ?_
      refine J.topi (y := nI (min n (g.x.2.1 1))) (mmin_nI (by omega) (by have := hB.1; have := hB.2.1; show g.x.2.1 1 < _; omega)) ?_
      refine J.putfS X dX0_set_107 (pl_X0_77_X1 _) (c0) (Nat.le_of_ble_eq_true rfl) (rfl) (rfl) ?_
      refine J.goto (tgt := 143) X dX0_set_110 (by decide) ?_
      exact fin (va_up (va_up g.x.2.1 0 n) 1 (min n (g.x.2.1 1))) ⟨⟨h1, hn⟩, Nat.min_le_left _ _, hB.2.2.1, hB.2.2.2⟩ s' gs (by decide) hT e2
    · skip
      refine J.tsIn (off := 54) (tgt := 113) X dX0_set_59 (by decide) (by decide) (by decide) (by decide) ?_
      refine J.fresh c0 ?_
      refine J.aload0 X dX0_set_113 ?_
      refine J.getf X dX0_set_114 fl_X0_18_X0 (so1 _) rfl ?_
      refine J.iload2 X dX0_set_117 ?_
      refine J.putfS X dX0_set_118 (pl_X0_77_X1 _) (c0) (Nat.le_of_ble_eq_true rfl) (rfl) (rfl) ?_
      refine J.goto (tgt := 143) X dX0_set_121 (by decide) ?_
      exact fin (va_up g.x.2.1 1 n) ⟨hB.1, h1, hB.2.2.1, hB.2.2.2⟩ s' gs (by decide) hT e2
    · skip
      refine J.tsIn (off := 65) (tgt := 124) X dX0_set_59 (by decide) (by decide) (by decide) (by decide) ?_
      refine J.fresh c0 ?_
      refine J.aload0 X dX0_set_124 ?_
      refine J.getf X dX0_set_125 fl_X0_18_X0 (so1 _) rfl ?_
      refine J.iload2 X dX0_set_128 ?_
      refine J.putfS X dX0_set_129 (pl_X0_80_X1 _) (c0) (Nat.le_of_ble_eq_true rfl) (rfl) (rfl) ?_
      refine J.goto (tgt := 143) X dX0_set_132 (by decide) ?_
      exact fin2 (va_up g.x.2.1 2 n) ⟨hB.1, hB.2.1, ⟨h1, h9⟩, hB.2.2.2⟩ (by decide) e2
    · refine J.tsOut (tgt := 135) X dX0_set_59 (by decide) (by decide) ?_
      refine J.fresh c0 ?_
      refine J.aload0 X dX0_set_135 ?_
      refine J.getf X dX0_set_136 fl_X0_18_X0 (so1 _) rfl ?_
      refine J.iload2 X dX0_set_139 ?_
      refine J.putfS X dX0_set_140 (pl_X0_83_X1 _) (c0) (Nat.le_of_ble_eq_true rfl) (rfl) (rfl) ?_
      exact fin2 (va_up g.x.2.1 3 n) ⟨hB.1, hB.2.1, hB.2.2.1, h9⟩ (by decide) e2
  refine J.icmp_neN (tgt := 34) X dX0_set_21 (by decide) (by omega) (by omega) (fun c1 => ?_) (fun c1 => ?_)
  · skip
    refine J.gets X dX0_set_34 q487 bZ ?_
    refine J.iconst (v := nI 2) X dX0_set_37 (by decide) ?_
    refine J.iload1 X dX0_set_38 ?_
    refine J.imulN X dX0_set_39 ?_
    refine J.iconst (v := nI 1) X dX0_set_40 (by decide) ?_
    refine J.iaddN X dX0_set_41 ?_
    refine J.tald X dX0_set_42 bT rfl (by omega) (by decide) rfl ?_
    exact mid _ (by rw [if_neg c1])
  · skip
    refine J.aload0 X dX0_set_24 ?_
    refine J.getf X dX0_set_25 fl_X0_18_X0 (so.1) rfl ?_
    refine J.getf X dX0_set_28 fl_X0_73_X1 (co.1) rfl ?_
    refine J.goto (tgt := 43) X dX0_set_31 (by decide) ?_
    exact mid _ (by rw [if_pos c1])
