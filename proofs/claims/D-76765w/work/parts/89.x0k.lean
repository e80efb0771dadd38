/-! SegmentedCache: gone, things, looked -/
theorem GX.dq {K : JK} {h : JIH} {o : Nat} {p : GP} {g : GA} {tz tzi : Nat} (S : GX K h o p g tz tzi) : ∃ P, P.map Prod.snd = g.x.2.2 ∧ DQ K 23 h p.y.2.2 P := by
  obtain ⟨ta, D, P, eP, R, -⟩ := S.cc
  exact ⟨P, eP, R.dq⟩
theorem x_goneAt {K : JK} {l : Launch} {hE : JIH} (F : JF K) {c d n : Nat} {C : Nat → Nat} {y : CY} {bo : Int32} {P : List (Nat × Nat)} (co : hget hE c = some (jO 1 (caO C y bo))) (hd : DQ K 23 hE y.2.2 P) (hn : n < 2147483648) (hr : hres hE + 12 ≤ jRL) :
    Ct K l yX0_goneAt wX0_goneAt 4 [.ref c, .int (nI n)] hE (jRi (fun r0 h' => r0 = oel ((P.map Prod.snd)[n]?) (-5) (fun z => nI z) ∧ Fr (fun x => x = 7) hE h' ∧ hres h' = hres hE + 12)) jNo := by
  obtain ⟨fd, ob⟩ := hd.ob
  refine st_X0_goneAt (ls := [some (.ref c), some (.int (nI n)), none, none, none]) F rfl (body := fun M X => ?_)
  refine J.iload1 X dX0_goneAt_0 ?_
  refine J.istore2 X dX0_goneAt_1 ?_
  refine J.aload0 X dX0_goneAt_2 ?_
  refine J.getf X dX0_goneAt_3 fl_X0_195_X1 (co) rfl ?_
  refine J.callVa X dX0_goneAt_6 lk_X0_199_J4 ce_J4_iterator (dq_iter F hd (by decide) hr) (by decide) rfl (ob.1) rfl (fun r h1 e _ => ?_)
  obtain ⟨it, rfl, I, f1, r1⟩ := e
  refine J.astore3 X dX0_goneAt_9 ?_
  suffices loop : ∀ (r j : Nat) (h : JIH) (x4 : Option Value), j + r = P.length → j ≤ n → DQJ K 23 h y.2.2 P it j → Fr (fun x => x = 7) hE h → hres h = hres hE + 12 → J M h 10 [some (.ref c), some (.int (nI n)), some (.int (nI (n - j))), some (.ref it), x4] [] from loop P.length 0 h1 _ (by omega) (Nat.zero_le _) I f1 r1
  clear I f1 r1
  intro r
  induction r with
  | zero =>
    intro j h x4 hj jn I ff ee
    obtain ⟨fs, oi⟩ := I.ob
    refine J.aload3 X dX0_goneAt_10 ?_
    refine J.callFi X dX0_goneAt_11 lk_X0_205_J38 ce_J38_hasNext (dq_has F I) (by decide) rfl (oi.1) rfl (fun r' h' e _ => ?_)
    obtain ⟨rfl, rfl⟩ := e
    refine J.if_eqB (tgt := 46) X dX0_goneAt_16 (by decide) (fun _ => ?_) (fun q9 => absurd q9 (fun z => by omega))
    refine J.bipush (v := -5) X dX0_goneAt_46 (by decide) ?_
    refine J.zreturn X dX0_goneAt_48 (rfl) (jRi.of ?_)
    refine ⟨?_, ff, ee⟩
    rw [List.getElem?_eq_none (by rw [List.length_map]; omega)]
    rfl
  | succ r ih =>
    intro j h x4 hj jn I ff ee
    have hjl : j < P.length := by omega
    have hg : P[j]? = some P[j] := List.getElem?_eq_getElem hjl
    obtain ⟨fs, oi⟩ := I.ob
    refine J.aload3 X dX0_goneAt_10 ?_
    refine J.callFi X dX0_goneAt_11 lk_X0_205_J38 ce_J38_hasNext (dq_has F I) (by decide) rfl (oi.1) rfl (fun r' h' e _ => ?_)
    obtain ⟨rfl, rfl⟩ := e
    refine J.if_eqB (tgt := 46) X dX0_goneAt_16 (by decide) (fun q9 => absurd q9 (fun z => z hjl)) (fun _ => ?_)
    refine J.aload3 X dX0_goneAt_19 ?_
    refine J.callFa X dX0_goneAt_20 lk_X0_211_J38 ce_J38_next (dq_next F I hg (by decide)) (by decide) rfl (oi.1) rfl (fun r' h' e _ => ?_)
    obtain ⟨rfl, I1, f1, r1⟩ := e
    have gk := I1.dq.key P[j] (List.getElem_mem hjl)
    refine J.castS X dX0_goneAt_25 cl_X0_43 jcl_8 (gk.2.1) ?_
    refine J.astore4 X dX0_goneAt_28 ?_
    refine J.iload2 X dX0_goneAt_30 ?_
    refine J.if_neN (tgt := 40) X dX0_goneAt_31 (by decide) (by omega) (fun c1 => ?_) (fun c1 => ?_)
    · skip
      refine J.iinc2 (d := -1) X dX0_goneAt_40 (by decide) ?_
      show J M h' 43 [some (.ref c), some (.int (nI n)), some (.int (nI (n - j) + -1)), some (.ref it), some (.ref P[j].1)] []
      rw [show nI (n - j) + -1 = nI (n - (j + 1)) by rw [show n - j = n - (j + 1) + 1 by omega]; exact pk_m1 _]
      refine J.goto (tgt := 10) X dX0_goneAt_43 (by decide) ?_
      exact ih (j + 1) h' _ (by omega) (by omega) I1 (ff.tr f1) (by omega)
    · skip
      refine J.aload4 X dX0_goneAt_34 ?_
      refine J.callVi X dX0_goneAt_36 lk_X0_215_X8 ce_X8_told (key_told F gk) (by decide) rfl (gk.2.1) rfl (fun r' h2 e _ => ?_)
      obtain ⟨rfl, rfl⟩ := e
      refine J.zreturn X dX0_goneAt_39 (rfl) (jRi.of ?_)
      refine ⟨?_, ff.tr f1, by omega⟩
      have en : n = j := by omega
      rw [en, List.getElem?_map, hg]
      rfl
def ggone (g : GA) (k r : Int32) : Prop := (k < 0 ∧ r = -1) ∨ ∃ n, n < 2147483648 ∧ k = nI n ∧ r = oel (g.x.2.2[n]?) (-5) (fun z => nI z)
theorem x_gone {K : JK} {l : Launch} {hE : JIH} {o : Nat} {p : GP} {g : GA} {tz tzi : Nat} (F : JF K) (S : GX K hE o p g tz tzi) {k r : Int32} (hf : ggone g k r) (rm : RM hE tz 12) :
    Ct K l yX0_gone wX0_gone 12 [.ref o, .int k] hE (jRi (fun r0 h' => r0 = r ∧ GX K h' o p g tz tzi ∧ hres h' ≤ hres hE + 12 ∧ Fr n5 hE h')) jNo := by
  have so := S.o.1
  obtain ⟨ta, D, S1⟩ := S.cc
  have co := S1.o.1
  have hB := S.bc
  have r8 := S1.rm8 rm
  obtain ⟨P, eP, hd⟩ := S.dq
  rcases hf with ⟨q, rfl⟩ | ⟨n, hn, rfl, rfl⟩
  · refine st_X0_gone (ls := [some (.ref o), some (.int k)]) F rfl (body := fun M X => ?_)
    refine J.iload1 X dX0_gone_0 ?_
    refine J.if_ge (tgt := 8) X dX0_gone_1 (by decide) (fun q9 => absurd q9 (fun z => absurd q (Int32.not_lt.mpr z))) (fun _ => ?_)
    refine J.iconst (v := -1) X dX0_gone_4 (by decide) ?_
    refine J.goto (tgt := 16) X dX0_gone_5 (by decide) ?_
    refine J.zreturn X dX0_gone_16 (rfl) (jRi.of ?_)
    exact ⟨rfl, S, by omega, Fr.rf _ _⟩
  · refine st_X0_gone (ls := [some (.ref o), some (.int (nI n))]) F rfl (body := fun M X => ?_)
    refine J.iload1 X dX0_gone_0 ?_
    refine J.if_geN (tgt := 8) X dX0_gone_1 (by decide) (by omega) ?_
    refine J.aload0 X dX0_gone_8 ?_
    refine J.getf X dX0_gone_9 fl_X0_18_X0 (so) rfl ?_
    refine J.iload1 X dX0_gone_12 ?_
    refine J.callSi X dX0_gone_13 lk_X0_218 ce_X0_goneAt (x_goneAt F (d := 0) co hd hn (by omega)) (by decide) rfl (fun r0 h1 e _ => ?_)
    obtain ⟨rfl, f1, e1⟩ := e
    refine J.zreturn X dX0_gone_16 (rfl) (jRi.of ?_)
    refine ⟨by rw [eP], S.up0 (x' := g.x) f1 (fun z hz => Or.inr (Or.inl hz)) ⟨ta, D, S1.fr f1 (fun x a b => by omega) (by omega)⟩ hB, by omega, f1.mono (fun z hz => by show z ≠ 5; omega)⟩
theorem x_things {K : JK} {l : Launch} {hE : JIH} {b c : Nat} {y : CY} {s : AS} {C : Nat → Nat} {G : List Nat} {ta : Nat → Nat} {D : List Nat} {tz : Nat} (F : JF K) (S : CC K b hE c y s C G ta D tz) :
    Ct K l yX0_things wX0_things 1 [.ref c] hE (jRi (fun r0 h' => r0 = nI ((s.1 1).length + (s.1 2).length) ∧ hE = h')) jNo := by
  have co := S.o.1
  have q1 := S.q aq1
  have q2 := S.q aq2
  obtain ⟨fs1, o1⟩ := S.mp aq1
  obtain ⟨fs2, o2⟩ := S.mp aq2
  obtain ⟨ea1, ka1, n1, mc1, L1⟩ := S.lm aq1
  obtain ⟨ea2, ka2, n2, mc2, L2⟩ := S.lm aq2
  refine st_X0_things (ls := [some (.ref c)]) F rfl (body := fun M X => ?_)
  refine J.aload0 X dX0_things_0 ?_
  refine J.getf X dX0_things_1 fl_X0_299_X1 (co) rfl ?_
  refine J.getf X dX0_things_4 fl_X0_175_X2 (q1.1) rfl ?_
  refine J.callUi X dX0_things_7 lk_X0_295_J2 ce_J1_size (c_size F L1) (by decide) rfl (o1.1) rfl (fun r0 h2 e _ => ?_)
  obtain ⟨rfl, rfl⟩ := e
  refine J.aload0 X dX0_things_10 ?_
  refine J.getf X dX0_things_11 fl_X0_330_X1 (co) rfl ?_
  refine J.getf X dX0_things_14 fl_X0_175_X2 (q2.1) rfl ?_
  refine J.callUi X dX0_things_17 lk_X0_295_J2 ce_J1_size (c_size F L2) (by decide) rfl (o2.1) rfl (fun r0 h2 e _ => ?_)
  obtain ⟨rfl, rfl⟩ := e
  refine J.iaddN X dX0_things_20 ?_
  refine J.zreturn X dX0_things_21 (rfl) (jRi.of ?_)
  exact ⟨rfl, rfl⟩
