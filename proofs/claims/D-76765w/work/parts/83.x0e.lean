/-! SegmentedCache: count, gone, traces run -/
theorem GX.tl {K : JK} {h : JIH} {o : Nat} {p : GP} {g : GA} {tz tzi : Nat} (S : GX K h o p g tz tzi) : GC h p.tl g.cls := S.2.2.2.2.2.2.1
def gcount (g : GA) (a r : Int32) : Prop := (¬ (nI 0 ≤ a ∧ a ≤ nI 6) ∧ r = -2) ∨ ∃ j, j ≤ 6 ∧ a = nI j ∧ r = if j < 4 then nI (g.x.1.1 (j + 1)).length else if j = 4 then nI g.cls.length else if j = 5 then nI g.bk.length else nI g.tx.length
theorem x_count {K : JK} {l : Launch} {hE : JIH} {o : Nat} {p : GP} {g : GA} {tz tzi : Nat}  (F : JF K) (S : GX K hE o p g tz tzi) {a r : Int32} (hf : gcount g a r) :
    Ct K l yX0_count wX0_count 12 [.ref o, .int a] hE (jRi (fun r0 h' => r0 = r ∧ hE = h')) jNo := by
  have so := S.o.1
  obtain ⟨ta, D, S1⟩ := S.cc
  have co := S1.o.1
  obtain ⟨ns, it, mc, L, el, -⟩ := S.tl
  refine st_X0_count (ls := [some (.ref o), some (.int a)]) F rfl (body := fun M X => ?_)
  refine J.iload1 X dX0_count_0 ?_
  rcases hf with ⟨q, rfl⟩ | ⟨j, hj, rfl, rfl⟩
  · skip
    refine J.tsOut (tgt := 79) X dX0_count_1 (ts_out (m := 6) (by decide) q) (by decide) ?_
    refine J.bipush (v := -2) X dX0_count_79 (by decide) ?_
    refine J.zreturn X dX0_count_81 (rfl) (jRi.of ?_)
    exact ⟨rfl, rfl⟩
  have l1 : j ≤ 3 → J M hE 44 [some (.ref o), some (.int (nI j))] [] := fun h3 => by
    have hi : aq (j + 1) := ⟨by omega, by omega⟩
    have qo := S1.q hi
    obtain ⟨fs, ob⟩ := S1.mp hi
    obtain ⟨ea, ka, n, mc, L⟩ := S1.lm hi
    refine J.aload0 X dX0_count_44 ?_
    refine J.getf X dX0_count_45 fl_X0_18_X0 (so) rfl ?_
    refine J.iload1 X dX0_count_48 ?_
    refine J.iconst (v := nI 1) X dX0_count_49 (by decide) ?_
    refine J.iaddN X dX0_count_50 ?_
    refine J.callVa X dX0_count_51 lk_X0_102_X1 ce_X1_queue (k_queue F S1 hi) (by decide) rfl (co) rfl (fun r0 h2 e _ => ?_)
    obtain ⟨rfl, rfl⟩ := e
    refine J.getf X dX0_count_54 fl_X0_175_X2 (qo.1) rfl ?_
    refine J.callUi X dX0_count_57 lk_X0_295_J2 ce_J1_size (c_size F L) (by decide) rfl (ob.1) rfl (fun r0 h2 e _ => ?_)
    obtain ⟨rfl, rfl⟩ := e
    refine J.zreturn X dX0_count_60 (rfl) (jRi.of ?_)
    exact ⟨by rw [if_pos (by omega)], rfl⟩
  rcases (show j ≤ 3 ∨ j = 4 ∨ j = 5 ∨ j = 6 by omega) with h3 | rfl | rfl | rfl
  · have q1 := l1 h3
    rcases (show j = 0 ∨ j = 1 ∨ j = 2 ∨ j = 3 by omega) with rfl | rfl | rfl | rfl
    · skip
      refine J.tsIn (off := 43) (tgt := 44) X dX0_count_1 (by decide) (by decide) (by decide) (by decide) ?_
      exact q1
    · skip
      refine J.tsIn (off := 43) (tgt := 44) X dX0_count_1 (by decide) (by decide) (by decide) (by decide) ?_
      exact q1
    · skip
      refine J.tsIn (off := 43) (tgt := 44) X dX0_count_1 (by decide) (by decide) (by decide) (by decide) ?_
      exact q1
    · skip
      refine J.tsIn (off := 43) (tgt := 44) X dX0_count_1 (by decide) (by decide) (by decide) (by decide) ?_
      exact q1
  · skip
    refine J.tsIn (off := 60) (tgt := 61) X dX0_count_1 (by decide) (by decide) (by decide) (by decide) ?_
    refine J.aload0 X dX0_count_61 ?_
    refine J.getf X dX0_count_62 fl_X0_39_X0 (so) rfl ?_
    refine J.callVi X dX0_count_65 lk_X0_69_J7 ce_J7_size (ll_size F L) (by decide) rfl (L.ob.1) rfl (fun r0 h2 e _ => ?_)
    obtain ⟨rfl, rfl⟩ := e
    refine J.zreturn X dX0_count_68 (rfl) (jRi.of ?_)
    exact ⟨by rw [el]; rfl, rfl⟩
  · skip
    refine J.tsIn (off := 68) (tgt := 69) X dX0_count_1 (by decide) (by decide) (by decide) (by decide) ?_
    refine J.aload0 X dX0_count_69 ?_
    refine J.getf X dX0_count_70 fl_X0_296_X0 (so) rfl ?_
    refine J.zreturn X dX0_count_73 (rfl) (jRi.of ?_)
    exact ⟨rfl, rfl⟩
  · refine J.tsIn (off := 73) (tgt := 74) X dX0_count_1 (by decide) (by decide) (by decide) (by decide) ?_
    refine J.aload0 X dX0_count_74 ?_
    refine J.getf X dX0_count_75 fl_X0_229_X0 (so) rfl ?_
    refine J.zreturn X dX0_count_78 (rfl) (jRi.of ?_)
    exact ⟨rfl, rfl⟩
theorem x_isTrace {K : JK} {l : Launch} {hE : JIH} {o : Nat} {p : GP} {g : GA} {tz tzi : Nat}  (F : JF K) (S : GX K hE o p g tz tzi) (a : Int32) :
    Ct K l yX0_isTrace wX0_isTrace 1 [.ref o, .int a] hE (jRi (fun r0 h' => r0 = jB (nI 0 ≤ a ∧ a ≤ nI g.cls.length - nI 1) ∧ hE = h')) jNo := by
  have so := S.o.1
  obtain ⟨ns, it, mc, L, el, -⟩ := S.tl
  refine st_X0_isTrace (ls := [some (.ref o), some (.int a)]) F rfl (body := fun M X => ?_)
  refine J.iload1 X dX0_isTrace_0 ?_
  refine J.iconst (v := nI 0) X dX0_isTrace_1 (by decide) ?_
  refine J.aload0 X dX0_isTrace_2 ?_
  refine J.getf X dX0_isTrace_3 fl_X0_39_X0 (so) rfl ?_
  refine J.callVi X dX0_isTrace_6 lk_X0_69_J7 ce_J7_size (ll_size F L) (by decide) rfl (L.ob.1) rfl (fun r0 h2 e _ => ?_)
  obtain ⟨rfl, rfl⟩ := e
  refine J.iconst (v := nI 1) X dX0_isTrace_9 (by decide) ?_
  refine J.isub X dX0_isTrace_10 ?_
  refine J.callSi X dX0_isTrace_11 lk_X0_5 ce_X0_in (x_in F a (nI 0) (nI ns.length - nI 1)) (by decide) rfl (fun r0 h2 e _ => ?_)
  obtain ⟨rfl, rfl⟩ := e
  refine J.zreturn X dX0_isTrace_14 (jB_n) (jRi.of ?_)
  exact ⟨by rw [el], rfl⟩
def grun (fu : Nat) (g : GA) (t r : Int32) (g' : GA) : Prop := (¬ (nI 0 ≤ t ∧ t ≤ nI g.cls.length - nI 1) ∧ r = -1 ∧ g' = g) ∨ ((nI 0 ≤ t ∧ t ≤ nI g.cls.length - nI 1) ∧ ∃ j c x', g.cls[j]? = some c ∧ t = nI j ∧ aruns fu c g.x x' ∧ r = nI (x'.2.1 4) - nI (g.x.2.1 4) ∧ g' = g.wx x')
theorem aruns.ok {fu : Nat} {PL : List Nat} : ∀ {cl : List Cl} {x x' : AX}, aruns fu cl x x' → (∀ q ∈ cl, clok q) → BC x.2.1 → AW x.1 → TP x.1 PL → BC x'.2.1 ∧ AW x'.1 ∧ TP x'.1 PL
  | [], x, x', h, _, b, a, t => by
    have h : x' = x := h
    subst h
    exact ⟨b, a, t⟩
  | q :: r, x, x', ⟨x1, h1, h2⟩, hq, b, a, t => by
    have := h1.ok (hq q List.mem_cons_self) b a t
    exact aruns.ok h2 (fun z hz => hq z (List.mem_cons_of_mem _ hz)) this.1 this.2.1 this.2.2
theorem TR.ok {t : Nat} {h : JIH} {l : Nat} {cl : List Cl} (S : TR t h l cl) : ∀ q ∈ cl, clok q := by
  obtain ⟨ns, it, mc, L, e1, e2, -⟩ := S
  intro q hq
  obtain ⟨j, hj⟩ := List.getElem?_of_mem hq
  have hl := (List.getElem?_eq_some_iff.mp hj).1
  exact (e2 j _ q (List.getElem?_eq_getElem (by omega)) hj).1
theorem x_run {K : JK} {l : Launch} {hE : JIH} {o : Nat} {p : GP} {g : GA} {tz tzi : Nat}  (F : JF K) (S : GX K hE o p g tz tzi) {PL : List Nat} (hp : TP g.x.1 PL) {fu : Nat} {t r : Int32} {g' : GA} (hf : grun fu g t r g') (rm : RM hE tz (Phi g.x.1 * cst PL.length + 410 * cst PL.length)) :
    Ct K l yX0_run wX0_run 13 [.ref o, .int t] hE (jRi (fun r0 h' => r0 = r ∧ (∃ tz', GX K h' o p g' tz' tzi ∧ (∀ j c, t = nI j → g.cls[j]? = some c → hres h' + tz + Phi g'.x.1 * cst PL.length ≤ hres hE + (Phi g.x.1 * cst PL.length + (20 * c.length + 1) * cst PL.length) + tz')) ∧ Fr n5 hE h')) jNo := by
  have so := S.o.1
  obtain ⟨ta, D, S1⟩ := S.cc
  have co := S1.o.1
  have hB := S.bc
  refine st_X0_run (ls := [some (.ref o), some (.int t), none]) F rfl (body := fun M X => ?_)
  refine J.aload0 X dX0_run_0 ?_
  refine J.iload1 X dX0_run_1 ?_
  refine J.callVi X dX0_run_2 lk_X0_250_X0 ce_X0_isTrace (x_isTrace F S t) (by decide) rfl (so) rfl (fun r0 h2 e _ => ?_)
  obtain ⟨rfl, rfl⟩ := e
  obtain ⟨ns, it, mc, L, el, e6, tr⟩ := S.tl
  rcases hf with ⟨q, rfl, rfl⟩ | ⟨q, j, c, x', hj, rfl, hR, rfl, rfl⟩
  · skip
    refine J.if_neB (tgt := 10) X dX0_run_5 (by decide) (fun q9 => absurd q9 (q)) (fun _ => ?_)
    refine J.iconst (v := -1) X dX0_run_8 (by decide) ?_
    refine J.zreturn X dX0_run_9 (rfl) (jRi.of ?_)
    refine ⟨rfl, ⟨tz, S, fun j c _ _ => ?_⟩, Fr.rf _ _⟩
    omega
  have hjl := (List.getElem?_eq_some_iff.mp hj).1
  have hns : ns[j]? = some ns[j] := List.getElem?_eq_getElem (by omega)
  have T := tr j _ c hns hj
  obtain ⟨fs, ob⟩ := T.ob
  have hl20 : c.length ≤ 20 := by obtain ⟨_, _, _, _, _, _, h⟩ := T; exact h
  have hmul : (20 * c.length + 10) * cst PL.length ≤ 410 * cst PL.length := Nat.mul_le_mul_right _ (by omega)
  refine J.if_neB (tgt := 10) X dX0_run_5 (by decide) (fun _ => ?_) (fun q9 => absurd q9 (fun z => z q))
  refine J.aload0 X dX0_run_10 ?_
  refine J.getf X dX0_run_11 fl_X0_18_X0 (so) rfl ?_
  refine J.getf X dX0_run_14 fl_X0_111_X1 (co) rfl ?_
  refine J.istore2 X dX0_run_17 ?_
  refine J.aload0 X dX0_run_18 ?_
  refine J.getf X dX0_run_19 fl_X0_18_X0 (so) rfl ?_
  refine J.aload0 X dX0_run_22 ?_
  refine J.getf X dX0_run_23 fl_X0_39_X0 (so) rfl ?_
  refine J.iload1 X dX0_run_26 ?_
  refine J.callVa X dX0_run_27 lk_X0_254_J7 ce_J7_get (ll_get F L hns (by omega)) (by decide) rfl (L.ob.1) rfl (fun r0 h2 e _ => ?_)
  obtain ⟨rfl, rfl⟩ := e
  refine J.castS X dX0_run_30 cl_X0_36 jcl_16 (ob.1) ?_
  refine J.callVv X dX0_run_33 lk_X0_257_X1 ce_X1_runs (k_runs F S1 hB hp T ⟨by omega, by omega, by omega⟩ hR (rm.mono (by omega))) (by decide) rfl (co) rfl (fun h2 e _ => ?_)
  obtain ⟨⟨ta', D', tz', S3, e3⟩, f3⟩ := e
  have ok := hR.ok T.ok hB S1.aw hp
  have S4 := S.up0 f3 (fun z hz => hz.elim Or.inl (fun q => Or.inr (Or.inl q))) ⟨ta', D', S3⟩ ok.1
  have so2 := S4.o.1
  have co2 := S3.o.1
  refine J.aload0 X dX0_run_36 ?_
  refine J.getf X dX0_run_37 fl_X0_18_X0 (so2) rfl ?_
  refine J.getf X dX0_run_40 fl_X0_111_X1 (co2) rfl ?_
  refine J.iload2 X dX0_run_43 ?_
  refine J.isub X dX0_run_44 ?_
  refine J.zreturn X dX0_run_45 (rfl) (jRi.of ?_)
  refine ⟨rfl, ⟨tz', S4, fun j' c' ej hc' => ?_⟩, f3.mono (fun z hz => hz.elim (fun q => CT.n5 q (Or.inl rfl)) (fun q => by show z ≠ 5; omega))⟩
  have hjl' := (List.getElem?_eq_some_iff.mp hc').1
  have : j = j' := nI_inj (by omega) (by omega) ej
  subst this
  cases hj.symm.trans hc'
  exact e3
