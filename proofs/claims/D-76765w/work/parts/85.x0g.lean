/-! SegmentedCache: hadBy, need -/
/-- how often it would be had with capacity n, border b -/
def ahadR (fu : Nat) (g : GA) (cl : List Cl) (n b v : Nat) : Prop := ∃ s1 gs, atrim n (min b n) fu g.x.1 s1 gs ∧ ∀ C1 : Nat → Nat, C1 0 = n → C1 1 = min b n → C1 2 = g.x.2.1 2 → C1 3 = g.x.2.1 3 → C1 4 = 0 → ∃ x', aruns fu cl (s1, C1, g.x.2.2) x' ∧ x'.2.1 4 = v
theorem x_hadBy {K : JK} {l : Launch} {hE : JIH} {o : Nat} {p : GP} {g : GA} {tz tzi : Nat} (F : JF K) (S : GX K hE o p g tz tzi) {e0 : Nat} {D0 : Nat → Prop} (S3 : SA K 3 hE p.b3 g.x.1 (askC g.x.2.1) e0 D0) {PL : List Nat} (hp : TP g.x.1 PL) {fu n b j v : Nat} {c : List Cl} (hn : 1 ≤ n ∧ n ≤ 99) (hb : b ≤ 99) (hj : g.cls[j]? = some c) (hf : ahadR fu g c n b v) (rm : RM hE tz 13) :
    Ct K l yX0_hadBy wX0_hadBy 7 [.ref o, .int (nI j), .int (nI n), .int (nI b)] hE (jRi (fun r0 h' => r0 = nI v ∧ GX K h' o p g tz tzi ∧ SA K 3 h' p.b3 g.x.1 (askC g.x.2.1) e0 D0 ∧ hres h' = hres hE + 13 ∧ Fr n5 hE h')) jNo := by
  have so := S.o.1
  obtain ⟨ta, D, S1⟩ := S.cc
  have hB := S.bc
  have r8 := S1.rm8 rm
  obtain ⟨fs, ob⟩ := S.z4.ob
  obtain ⟨s1, gs, hT, hR⟩ := hf
  refine st_X0_hadBy (ls := [some (.ref o), some (.int (nI j)), some (.int (nI n)), some (.int (nI b))]) F rfl (body := fun M X => ?_)
  refine J.aload0 X dX0_hadBy_0 ?_
  refine J.getf X dX0_hadBy_1 fl_X0_29_X0 (so) rfl ?_
  refine J.aload0 X dX0_hadBy_4 ?_
  refine J.getf X dX0_hadBy_5 fl_X0_25_X0 (so) rfl ?_
  refine J.callVv X dX0_hadBy_8 lk_X0_270_X3 ce_X3_takes (sa_takes F S.z4 S3 (by decide)) (by decide) rfl (ob) rfl (fun h1 e _ => ?_)
  obtain ⟨⟨C', e', D', S4, c2, c3, c4⟩, f1⟩ := e
  have ff1 : Fr gS hE h1 := f1.1.mono (fun z hz => Or.inr (Or.inr (Or.inr (Or.inr hz))))
  have X1' := S.up (x' := g.x) ff1 ⟨ta, D, S1.fr f1.1 (fun x a b => by omega) (by omega)⟩ (S.z3.fr f1.1 (by omega)) S4.z hB
  have so1 := X1'.o.1
  obtain ⟨wh, nx, ah, wt, ht, ch, pn, fi, la, to, T, g1, g2, g3, g4, g5, A⟩ := S4
  have SS := T.S
  have t0 := T.1
  have ne : p.b4 ≠ o := fun z => by
    have h1' := g1.2.2 0 (by decide)
    have h2' := X1'.o.2
    rw [← z] at h2'
    exact absurd (h1'.symm.trans h2') (by decide)
  have so2 : ∀ e, hget (hset h1 p.b4 e) o = some (jO 0 (x0O p g)) := fun e => (hget_set_ne e ne).trans so1
  refine J.fresh t0 ?_
  refine J.aload0 X dX0_hadBy_11 ?_
  refine J.getf X dX0_hadBy_12 fl_X0_29_X0 (so2 _) rfl ?_
  refine J.iload2 X dX0_hadBy_15 ?_
  refine J.putfS X dX0_hadBy_16 (pl_X0_274_X3 _) (t0) (Nat.le_of_ble_eq_true rfl) (rfl) (rfl) ?_
  refine J.aload0 X dX0_hadBy_19 ?_
  refine J.getf X dX0_hadBy_20 fl_X0_29_X0 (so2 _) rfl ?_
  refine J.iload3 X dX0_hadBy_23 ?_
  refine J.iload2 X dX0_hadBy_24 ?_
  refine J.mmin X dX0_hadBy_25 q493 (by decide) ?_
  refine J.topi (y := nI (min b n)) (mmin_nI (by omega) (by omega)) ?_
  refine J.putfS X dX0_hadBy_28 (pl_X0_265_X3 _) (t0) (Nat.le_of_ble_eq_true rfl) (rfl) (rfl) ?_
  have S5 := SS.w_o (j0 := nI n) (j1 := nI (min b n)) (j2 := nI (C' 2)) (j3 := nI (C' 3)) (j4 := nI (C' 4)) (j5 := nI (C' 5)) (j6 := nI (C' 6)) (j7 := nI (C' 9)) (j8 := nI e')
  show J M (hset h1 p.b4 (jO 3 (skO p.b4 (nI n) (nI (min b n)) (nI (C' 2)) (nI (C' 3)) (nI (C' 4)) (nI (C' 5)) (nI (C' 6)) (nI (C' 9)) (nI e')))) _ _ _
  generalize hset h1 p.b4 (jO 3 (skO p.b4 (nI n) (nI (min b n)) (nI (C' 2)) (nI (C' 3)) (nI (C' 4)) (nI (C' 5)) (nI (C' 6)) (nI (C' 9)) (nI e'))) = h2 at S5
  have f2 := S5.2.SF g1
  have S6 : SA K 4 h2 p.b4 g.x.1 (va_up (va_up C' 0 n) 1 (min b n)) e' D' := ⟨_, _, _, _, _, _, _, _, _, _, S5.1, f2.2, g2, g3, g4, g5, A⟩
  have ff2 : Fr gS h1 h2 := f2.1.1.mono (fun z hz => Or.inr (Or.inr (Or.inr (Or.inr hz))))
  have X2 := X1'.up (x' := g.x) ff2 ⟨ta, D, (S1.fr f1.1 (fun x a b => by omega) (by omega)).fr f2.1.1 (fun x a b => by omega) (by omega)⟩ (X1'.z3.fr f2.1.1 (by omega)) S6.z hB
  have so3 := X2.o.1
  have min99 : min b n ≤ 99 := Nat.le_trans (Nat.min_le_right _ _) hn.2
  refine J.aload0 X dX0_hadBy_31 ?_
  refine J.getf X dX0_hadBy_32 fl_X0_29_X0 (so3) rfl ?_
  refine J.callVv X dX0_hadBy_35 lk_X0_275_X3 ce_X3_trims (sa_trims F S6 (by show n < 1000; omega) (by show min b n < 1000; omega) hT) (by decide) rfl (S6.ob) rfl (fun h3 e _ => ?_)
  obtain ⟨e3, D3, S7, f3⟩ := e
  have ff3 : Fr gS h2 h3 := f3.1.mono (fun z hz => Or.inr (Or.inr (Or.inr (Or.inr hz))))
  have X3 := X2.up (x' := g.x) ff3 ⟨ta, D, ((S1.fr f1.1 (fun x a b => by omega) (by omega)).fr f2.1.1 (fun x a b => by omega) (by omega)).fr f3.1 (fun x a b => by omega) (by omega)⟩ (X2.z3.fr f3.1 (by omega)) S7.z hB
  obtain ⟨x', hR, hv⟩ := hR (va_up (va_up (va_up C' 0 n) 1 (min b n)) 9 (va_up (va_up C' 0 n) 1 (min b n) 9 + gs.length)) rfl rfl c2 c3 c4
  obtain ⟨ns, it, mc, L, el, e6, tr⟩ := X3.tl
  have hjl := (List.getElem?_eq_some_iff.mp hj).1
  have hjl6 : g.cls.length ≤ 6 := e6
  have el' : ns.length = g.cls.length := el
  have hns : ns[j]? = some ns[j] := List.getElem?_eq_getElem (by omega)
  have TT := tr j _ c hns hj
  obtain ⟨fs2, ob2⟩ := TT.ob
  have so4 := X3.o.1
  have hTP := (TP.trim hp A hT).1
  have hBC : BC (va_up (va_up (va_up C' 0 n) 1 (min b n)) 9 (va_up (va_up C' 0 n) 1 (min b n) 9 + gs.length)) := by
    show (1 ≤ n ∧ n ≤ 99) ∧ min b n ≤ n ∧ (1 ≤ C' 2 ∧ C' 2 ≤ 9) ∧ C' 3 ≤ 9
    rw [c2, c3]
    exact ⟨hn, Nat.min_le_right _ _, hB.2.2.1, hB.2.2.2⟩
  have hr1 := f1.2
  have hr2 := f2.1.2
  have hr3 := f3.2
  refine J.aload0 X dX0_hadBy_38 ?_
  refine J.getf X dX0_hadBy_39 fl_X0_29_X0 (so4) rfl ?_
  refine J.aload0 X dX0_hadBy_42 ?_
  refine J.getf X dX0_hadBy_43 fl_X0_39_X0 (so4) rfl ?_
  refine J.iload1 X dX0_hadBy_46 ?_
  refine J.callVa X dX0_hadBy_47 lk_X0_254_J7 ce_J7_get (ll_get F L hns (by omega)) (by decide) rfl (L.ob.1) rfl (fun r0 h4 e _ => ?_)
  obtain ⟨rfl, rfl⟩ := e
  refine J.castS X dX0_hadBy_50 cl_X0_36 jcl_16 (ob2.1) ?_
  refine J.callVv X dX0_hadBy_53 lk_X0_261_X3 ce_X3_runs (sa_runs F (x := (s1, va_up (va_up (va_up C' 0 n) 1 (min b n)) 9 (va_up (va_up C' 0 n) 1 (min b n) 9 + gs.length), g.x.2.2)) S7 hBC hTP TT ⟨by omega, by omega⟩ (Or.inr rfl) hR (by omega)) (by decide) rfl (S7.ob) rfl (fun h4 e _ => ?_)
  obtain ⟨⟨e4, D4, S8⟩, f4, hr4⟩ := e
  have ff4 : Fr gS h3 h4 := f4.mono (fun z hz => hz.elim (fun q => Or.inr (Or.inr (Or.inr (Or.inr q)))) (fun q => Or.inr (Or.inl q)))
  have X4 := X3.up (x' := g.x) ff4 ⟨ta, D, (((S1.fr f1.1 (fun x a b => by omega) (by omega)).fr f2.1.1 (fun x a b => by omega) (by omega)).fr f3.1 (fun x a b => by omega) (by omega)).fr f4 (fun x a b => by omega) (by omega)⟩ (X3.z3.fr f4 (by omega)) S8.z hB
  have so5 := X4.o.1
  refine J.aload0 X dX0_hadBy_56 ?_
  refine J.getf X dX0_hadBy_57 fl_X0_29_X0 (so5) rfl ?_
  refine J.getf X dX0_hadBy_60 fl_X0_262_X3 (S8.ob) rfl ?_
  refine J.zreturn X dX0_hadBy_63 (rfl) (jRi.of ?_)
  refine ⟨by rw [hv], X4, (((S3.fr f1.1 (by omega)).fr f2.1.1 (by omega)).fr f3.1 (by omega)).fr f4 (by omega), by omega, (((ff1.tr ff2).tr ff3).tr ff4).mono (fun z hz => by have : gS z := hz; unfold gS CT at this; show z ≠ 5; omega)⟩
