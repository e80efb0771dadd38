/-! SegmentedCache: victim, would, hadBy -/
theorem GX.z3 {K : JK} {h : JIH} {o : Nat} {p : GP} {g : GA} {tz tzi : Nat} (S : GX K h o p g tz tzi) : SZ K 3 h p.b3 := S.2.2.2.1
theorem GX.z4 {K : JK} {h : JIH} {o : Nat} {p : GP} {g : GA} {tz tzi : Nat} (S : GX K h o p g tz tzi) : SZ K 4 h p.b4 := S.2.2.2.2.1
theorem SZ.ob {K : JK} {t : Nat} {h : JIH} {B : Nat} (S : SZ K t h B) : ∃ fs, hget h B = some (jO 3 fs) := by
  obtain ⟨C, e, wh, nx, ah, wt, ht, ch, pn, fi, la, to, T, -⟩ := S
  exact ⟨_, T.1⟩
theorem SA.ob {K : JK} {t : Nat} {h : JIH} {B : Nat} {s : AS} {C : Nat → Nat} {e : Nat} {D : Nat → Prop} (S : SA K t h B s C e D) : hget h B = some (jO 3 (skO B (nI (C 0)) (nI (C 1)) (nI (C 2)) (nI (C 3)) (nI (C 4)) (nI (C 5)) (nI (C 6)) (nI (C 9)) (nI e))) := by
  obtain ⟨wh, nx, ah, wt, ht, ch, pn, fi, la, to, T, -⟩ := S
  exact T.1
def gvic (fu : Nat) (g : GA) (k r : Int32) : Prop := (k < 0 ∧ r = -1) ∨ (¬ k < 0 ∧ ∃ n s1 s2 gs, n < 2147483648 ∧ k = nI n ∧ asinks 0 fu g.x.1 = some s1 ∧ alets 0 fu s1 [] = some (s2, gs) ∧ r = oel (gs.reverse[n]?) (-5) (fun x => nI x))
theorem x_victim {K : JK} {l : Launch} {hE : JIH} {o : Nat} {p : GP} {g : GA} {tz tzi : Nat}  (F : JF K) (S : GX K hE o p g tz tzi) {fu : Nat} {k r : Int32} (hf : gvic fu g k r) (rm : RM hE tz 92) :
    Ct K l yX0_victim wX0_victim 12 [.ref o, .int k] hE (jRi (fun r0 h' => r0 = r ∧ GX K h' o p g tz tzi ∧ hres h' ≤ hres hE + 92 ∧ Fr n5 hE h')) jNo := by
  have so := S.o.1
  obtain ⟨ta, D, S1⟩ := S.cc
  have co := S1.o.1
  have hB := S.bc
  obtain ⟨fs, ob⟩ := S.z3.ob
  rcases hf with ⟨q, rfl⟩ | ⟨q, n, s1, s2, gs, hn, rfl, hq1, hq2, rfl⟩
  · refine st_X0_victim (ls := [some (.ref o), some (.int k)]) F rfl (body := fun M X => ?_)
    refine J.iload1 X dX0_victim_0 ?_
    refine J.if_ge (tgt := 8) X dX0_victim_1 (by decide) (fun q9 => absurd q9 (fun z => absurd q (Int32.not_lt.mpr z))) (fun _ => ?_)
    refine J.iconst (v := -1) X dX0_victim_4 (by decide) ?_
    refine J.goto (tgt := 23) X dX0_victim_5 (by decide) ?_
    refine J.zreturn X dX0_victim_23 (rfl) (jRi.of ?_)
    exact ⟨rfl, S, by omega, Fr.rf _ _⟩
  · refine st_X0_victim (ls := [some (.ref o), some (.int (nI n))]) F rfl (body := fun M X => ?_)
    refine J.iload1 X dX0_victim_0 ?_
    refine J.if_geN (tgt := 8) X dX0_victim_1 (by decide) (by omega) ?_
    refine J.aload0 X dX0_victim_8 ?_
    refine J.getf X dX0_victim_9 fl_X0_25_X0 (so) rfl ?_
    refine J.aload0 X dX0_victim_12 ?_
    refine J.getf X dX0_victim_13 fl_X0_18_X0 (so) rfl ?_
    refine J.callVa X dX0_victim_16 lk_X0_222_X3 ce_X3_of (sa_of F S.z3 (Or.inl rfl) S1 rm) (by decide) rfl (ob) rfl (fun r0 h2 e _ => ?_)
    obtain ⟨rfl, ⟨e', D', S2⟩, S3, f2, e2⟩ := e
    refine J.iload1 X dX0_victim_19 ?_
    refine J.callVi X dX0_victim_20 lk_X0_226_X3 ce_X3_victim (sa_victim F S2 rfl hn hq1 hq2) (by decide) rfl (S2.ob) rfl (fun r0 h3 e _ => ?_)
    obtain ⟨rfl, ⟨s', C', e3, D3, S4⟩, f3⟩ := e
    refine J.zreturn X dX0_victim_23 (rfl) (jRi.of ?_)
    have ff : Fr gS hE h3 := (f2.mono (fun z hz => hz.elim (fun q => Or.inr (Or.inr (Or.inr (Or.inl q)))) Or.inl)).tr (f3.1.mono (fun z hz => Or.inr (Or.inr (Or.inr (Or.inl hz)))))
    refine ⟨rfl, S.up (x' := g.x) ff ⟨ta, D, S3.fr f3.1 (fun x a b => by omega) (by omega)⟩ S4.z ((S.z4.fr f2 (by unfold CT; omega)).fr f3.1 (by omega)) hB, ?_, ff.mono (fun z hz => by have : gS z := hz; unfold gS CT at this; show z ≠ 5; omega)⟩
    have := f3.2
    omega
theorem BC.ask {C : Nat → Nat} (h : BC C) : BC (askC C) := h
def awould (x : AX) (i : Nat) : Int32 := if i = 0 then nI (x.2.1 4) else if i = 1 then nI (x.2.1 5) else if i = 2 then nI (x.2.1 6) else if i = 3 then nI (x.2.1 1) else if i = 4 then nI (wsum x.1 1 + wsum x.1 2) else nI (x.2.1 9)
def gwould (fu : Nat) (g : GA) (t a r : Int32) : Prop := (¬ (nI 0 ≤ t ∧ t ≤ nI g.cls.length - nI 1) ∧ r = -1) ∨ ((nI 0 ≤ t ∧ t ≤ nI g.cls.length - nI 1) ∧ ∃ j c x', g.cls[j]? = some c ∧ t = nI j ∧ aruns fu c (g.x.1, askC g.x.2.1, g.x.2.2) x' ∧ ((¬ (nI 0 ≤ a ∧ a ≤ nI 5) ∧ r = -1) ∨ ∃ i, i ≤ 5 ∧ a = nI i ∧ r = awould x' i))
theorem x_would {K : JK} {l : Launch} {hE : JIH} {o : Nat} {p : GP} {g : GA} {tz tzi : Nat}  (F : JF K) (S : GX K hE o p g tz tzi) {PL : List Nat} (hp : TP g.x.1 PL) {fu : Nat} {t a r : Int32} (hf : gwould fu g t a r) (rm : RM hE tz 105) :
    Ct K l yX0_would wX0_would 12 [.ref o, .int t, .int a] hE (jRi (fun r0 h' => r0 = r ∧ GX K h' o p g tz tzi ∧ hres h' ≤ hres hE + 105 ∧ Fr n5 hE h')) jNo := by
  have so := S.o.1
  obtain ⟨ta, D, S1⟩ := S.cc
  have co := S1.o.1
  have hB := S.bc
  have r8 := S1.rm8 rm
  obtain ⟨fs, ob⟩ := S.z3.ob
  refine st_X0_would (ls := [some (.ref o), some (.int t), some (.int a), none]) F rfl (body := fun M X => ?_)
  refine J.aload0 X dX0_would_0 ?_
  refine J.iload1 X dX0_would_1 ?_
  refine J.callVi X dX0_would_2 lk_X0_250_X0 ce_X0_isTrace (x_isTrace F S t) (by decide) rfl (so) rfl (fun r0 h2 e _ => ?_)
  obtain ⟨rfl, rfl⟩ := e
  rcases hf with ⟨q, rfl⟩ | ⟨q, j, c, x', hj, rfl, hR, hf⟩
  · skip
    refine J.if_neB (tgt := 10) X dX0_would_5 (by decide) (fun q9 => absurd q9 (q)) (fun _ => ?_)
    refine J.iconst (v := -1) X dX0_would_8 (by decide) ?_
    refine J.zreturn X dX0_would_9 (rfl) (jRi.of ?_)
    exact ⟨rfl, S, by omega, Fr.rf _ _⟩
  refine J.if_neB (tgt := 10) X dX0_would_5 (by decide) (fun _ => ?_) (fun q9 => absurd q9 (fun z => z q))
  refine J.aload0 X dX0_would_10 ?_
  refine J.getf X dX0_would_11 fl_X0_25_X0 (so) rfl ?_
  refine J.aload0 X dX0_would_14 ?_
  refine J.getf X dX0_would_15 fl_X0_18_X0 (so) rfl ?_
  refine J.callVa X dX0_would_18 lk_X0_222_X3 ce_X3_of (sa_of F S.z3 (Or.inl rfl) S1 (rm.mono (by omega))) (by decide) rfl (ob) rfl (fun r0 h2 e _ => ?_)
  obtain ⟨rfl, ⟨e', D', S2⟩, S3, f2, e2⟩ := e
  have ff : Fr gS hE h2 := f2.mono (fun z hz => hz.elim (fun q => Or.inr (Or.inr (Or.inr (Or.inl q)))) Or.inl)
  have X2 := S.up (x' := g.x) ff ⟨ta, D, S3⟩ S2.z (S.z4.fr f2 (by unfold CT; omega)) hB
  obtain ⟨ns, it, mc, L, el, e6, tr⟩ := X2.tl
  have hjl := (List.getElem?_eq_some_iff.mp hj).1
  have hjl6 : g.cls.length ≤ 6 := e6
  have el' : ns.length = g.cls.length := el
  have hns : ns[j]? = some ns[j] := List.getElem?_eq_getElem (by omega)
  have T := tr j _ c hns hj
  obtain ⟨fs2, ob2⟩ := T.ob
  have so2 := X2.o.1
  refine J.astore3 X dX0_would_21 ?_
  refine J.aload3 X dX0_would_22 ?_
  refine J.aload0 X dX0_would_23 ?_
  refine J.getf X dX0_would_24 fl_X0_39_X0 (so2) rfl ?_
  refine J.iload1 X dX0_would_27 ?_
  refine J.callVa X dX0_would_28 lk_X0_254_J7 ce_J7_get (ll_get F L hns (by omega)) (by decide) rfl (L.ob.1) rfl (fun r0 h3 e _ => ?_)
  obtain ⟨rfl, rfl⟩ := e
  refine J.castS X dX0_would_31 cl_X0_36 jcl_16 (ob2.1) ?_
  refine J.callVv X dX0_would_34 lk_X0_261_X3 ce_X3_runs (sa_runs F (x := (g.x.1, askC g.x.2.1, g.x.2.2)) S2 hB.ask hp T ⟨by omega, by omega⟩ (Or.inl rfl) hR (by omega)) (by decide) rfl (S2.ob) rfl (fun h3 e _ => ?_)
  obtain ⟨⟨e3, D3, S4⟩, f3, e4⟩ := e
  have fin : GX K h3 o p g tz tzi ∧ hres h3 ≤ hres hE + 105 ∧ Fr n5 hE h3 := by
    have ff3 : Fr gS h2 h3 := f3.mono (fun z hz => hz.elim (fun q => Or.inr (Or.inr (Or.inr (Or.inl q)))) (fun q => Or.inr (Or.inl q)))
    refine ⟨X2.up (x' := g.x) ff3 ⟨ta, D, S3.fr f3 (fun x a b => by omega) (by omega)⟩ S4.z (X2.z4.fr f3 (by omega)) hB, by omega, (ff.tr ff3).mono (fun z hz => by have : gS z := hz; unfold gS CT at this; show z ≠ 5; omega)⟩
  have o4 := S4.ob
  refine J.iload2 X dX0_would_37 ?_
  rcases hf with ⟨q2, rfl⟩ | ⟨i, hi, rfl, rfl⟩
  · skip
    refine J.tsOut (tgt := 106) X dX0_would_38 (ts_out (m := 5) (by decide) q2) (by decide) ?_
    refine J.iconst (v := -1) X dX0_would_106 (by decide) ?_
    refine J.zreturn X dX0_would_107 (rfl) (jRi.of ?_)
    exact ⟨rfl, fin⟩
  rcases (show i = 0 ∨ i = 1 ∨ i = 2 ∨ i = 3 ∨ i = 4 ∨ i = 5 by omega) with rfl | rfl | rfl | rfl | rfl | rfl
  · skip
    refine J.tsIn (off := 38) (tgt := 76) X dX0_would_38 (by decide) (by decide) (by decide) (by decide) ?_
    refine J.aload3 X dX0_would_76 ?_
    refine J.getf X dX0_would_77 fl_X0_262_X3 (o4) rfl ?_
    refine J.zreturn X dX0_would_80 (rfl) (jRi.of ?_)
    exact ⟨rfl, fin⟩
  · skip
    refine J.tsIn (off := 43) (tgt := 81) X dX0_would_38 (by decide) (by decide) (by decide) (by decide) ?_
    refine J.aload3 X dX0_would_81 ?_
    refine J.getf X dX0_would_82 fl_X0_263_X3 (o4) rfl ?_
    refine J.zreturn X dX0_would_85 (rfl) (jRi.of ?_)
    exact ⟨rfl, fin⟩
  · skip
    refine J.tsIn (off := 48) (tgt := 86) X dX0_would_38 (by decide) (by decide) (by decide) (by decide) ?_
    refine J.aload3 X dX0_would_86 ?_
    refine J.getf X dX0_would_87 fl_X0_264_X3 (o4) rfl ?_
    refine J.zreturn X dX0_would_90 (rfl) (jRi.of ?_)
    exact ⟨rfl, fin⟩
  · skip
    refine J.tsIn (off := 53) (tgt := 91) X dX0_would_38 (by decide) (by decide) (by decide) (by decide) ?_
    refine J.aload3 X dX0_would_91 ?_
    refine J.getf X dX0_would_92 fl_X0_265_X3 (o4) rfl ?_
    refine J.zreturn X dX0_would_95 (rfl) (jRi.of ?_)
    exact ⟨rfl, fin⟩
  · skip
    refine J.tsIn (off := 58) (tgt := 96) X dX0_would_38 (by decide) (by decide) (by decide) (by decide) ?_
    refine J.aload3 X dX0_would_96 ?_
    refine J.callVNi X dX0_would_97 lk_X0_266_X3 ce_X3_both (sa_both F S4) (by decide) rfl (o4) rfl (fun r0 h4 e _ => ?_)
    obtain ⟨rfl, rfl⟩ := e
    refine J.zreturn X dX0_would_100 (rfl) (jRi.of ?_)
    exact ⟨rfl, fin⟩
  · refine J.tsIn (off := 63) (tgt := 101) X dX0_would_38 (by decide) (by decide) (by decide) (by decide) ?_
    refine J.aload3 X dX0_would_101 ?_
    refine J.getf X dX0_would_102 fl_X0_269_X3 (o4) rfl ?_
    refine J.zreturn X dX0_would_105 (rfl) (jRi.of ?_)
    exact ⟨rfl, fin⟩
