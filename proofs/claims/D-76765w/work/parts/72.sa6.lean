/-! Sketch: runs -/
theorem sa_runs {K : JK} {l : Launch} {hE : JIH} {t0 B : Nat} {x x' : AX} {e : Nat} {D : Nat → Prop} {fu t ll : Nat} {PL : List Nat} {cl : List Cl} (F : JF K) (S : SA K t0 hE B x.1 x.2.1 e D) (hB : BC x.2.1) (hp : TP x.1 PL) (T : TR t hE ll cl) (ht : t ≠ 7 ∧ t ≠ t0) (ht0 : t0 = 3 ∨ t0 = 4) (hR : aruns fu cl x x') (rm : hres hE + 13 ≤ jRL) :
    Ct K l yX3_runs wX3_runs 6 [.ref B, .ref ll] hE (jRv (fun h' => (∃ e' D', SA K t0 h' B x'.1 x'.2.1 e' D') ∧ Fr (fun z => z = t0 ∨ z = 7) hE h' ∧ hres h' = hres hE + 13)) jNo := by
  have T0 := T
  obtain ⟨fs, ob⟩ := T.ob
  obtain ⟨ns, it, mc, L, hl, hcl, h20⟩ := T
  refine st_X3_runs (ls := [some (.ref B), some (.ref ll), none, none, none]) F rfl (body := fun M X => ?_)
  refine J.aload1 X dX3_runs_0 ?_
  refine J.callUa X dX3_runs_1 lk_X3_198_J7 ce_J6_iterator (ll_iter F L (by omega) ht.1 rm) (by decide) rfl (ob.1) rfl (fun r h1 e _ => ?_)
  obtain ⟨itr, rfl, LJ, f1, e1⟩ := e
  refine J.astore2 X dX3_runs_4 ?_
  have S1 := S.fr f1 (by omega)
  have hcl1 : ∀ (j n : Nat) (q : Cl), ns[j]? = some n → cl[j]? = some q → clok q ∧ ∃ a, hc h1 12 (it n) (jO 10 [.int (nI q.1), .int (nI q.2.2), .ref a]) ∧ IsKey h1 a q.2.1 := by
    intro j n q hn hq
    obtain ⟨ok, a, c1, c2⟩ := hcl j n q hn hq
    exact ⟨ok, a, c1.fr f1 (by decide), c2.fr f1 (by decide)⟩
  have F1 : Fr (fun z => z = t0 ∨ z = 7) hE h1 := f1.mono (fun z hz => Or.inr hz)
  suffices loop : ∀ (r : List Cl) (j : Nat) (x1 : AX) (h : JIH) (e : Nat) (D : Nat → Prop) (x3 x4 : Option Value), cl.drop j = r → j ≤ cl.length → aruns fu r x1 x' → SA K t0 h B x1.1 x1.2.1 e D → BC x1.2.1 → TP x1.1 PL → LLJ t h ll ns it mc itr j → (∀ (j n : Nat) (q : Cl), ns[j]? = some n → cl[j]? = some q → clok q ∧ ∃ a, hc h 12 (it n) (jO 10 [.int (nI q.1), .int (nI q.2.2), .ref a]) ∧ IsKey h a q.2.1) → Fr (fun z => z = t0 ∨ z = 7) hE h → hres h = hres hE + 13 → J M h 5 [some (.ref B), some (.ref ll), some (.ref itr), x3, x4] [] from loop cl 0 x h1 e D _ _ rfl (Nat.zero_le _) hR S1 hB hp LJ hcl1 F1 e1
  clear S1 LJ hcl1 F1 hcl L S hR hB hp f1 e1
  intro r
  induction r with
  | nil =>
    intro j x1 h e D x3 x4 hr hj hR S hB hp LJ hcl FF ii
    have hjl : j = cl.length := by
      have := congrArg List.length hr
      rw [List.length_drop, List.length_nil] at this
      omega
    obtain ⟨fs, oi⟩ := LJ.ob
    refine J.aload2 X dX3_runs_5 ?_
    refine J.callFi X dX3_runs_6 lk_X3_70_J41 ce_J41_hasNext (ll_has F LJ (by omega) (by omega)) (by decide) rfl (oi.1) rfl (fun r h' e _ => ?_)
    obtain ⟨rfl, rfl⟩ := e
    refine J.if_eqB (tgt := 107) X dX3_runs_11 (by decide) (fun _ => ?_) (fun q9 => absurd q9 (fun z => by omega))
    refine J.vreturn X dX3_runs_107 (jRv.of ?_)
    have hR : x' = x1 := hR
    subst hR
    exact ⟨⟨_, D, S⟩, FF, ii⟩
  | cons q r ih =>
    intro j x1 h e D x3 x4 hr hj hR S0 hB hp LJ hcl FF ii
    obtain ⟨x2, hc1, hR⟩ := hR
    have hjl : j < cl.length := by
      have := congrArg List.length hr
      rw [List.length_drop, List.length_cons] at this
      omega
    have hq : cl[j]? = some q := by
      have := congrArg List.head? hr
      rw [List.head?_drop] at this
      exact this
    have hr2 : cl.drop (j + 1) = r := by rw [← List.drop_drop, hr]; rfl
    have hnj : ns[j]? = some ns[j] := List.getElem?_eq_getElem (by omega)
    have hA := S0.aw
    obtain ⟨fs, oi⟩ := LJ.ob
    refine J.aload2 X dX3_runs_5 ?_
    refine J.callFi X dX3_runs_6 lk_X3_70_J41 ce_J41_hasNext (ll_has F LJ (by omega) (by omega)) (by decide) rfl (oi.1) rfl (fun r' h' e _ => ?_)
    obtain ⟨rfl, rfl⟩ := e
    refine J.if_eqB (tgt := 107) X dX3_runs_11 (by decide) (fun q9 => absurd q9 (fun z => z (by omega))) (fun _ => ?_)
    refine J.aload2 X dX3_runs_14 ?_
    refine J.callFa X dX3_runs_15 lk_X3_76_J41 ce_J41_next (ll_next F LJ (by omega) hnj ht.1) (by decide) rfl (oi.1) rfl (fun r' h2 e _ => ?_)
    obtain ⟨rfl, LJ2, f2, e2⟩ := e
    have S2 := S0.fr f2 (by omega)
    have hcl2 : ∀ (j n : Nat) (q : Cl), ns[j]? = some n → cl[j]? = some q → clok q ∧ ∃ a, hc h2 12 (it n) (jO 10 [.int (nI q.1), .int (nI q.2.2), .ref a]) ∧ IsKey h2 a q.2.1 := by
      intro j n q hn hq
      obtain ⟨ok, a, c1, c2⟩ := hcl j n q hn hq
      exact ⟨ok, a, c1.fr f2 (by decide), c2.fr f2 (by decide)⟩
    have FF2 : Fr (fun z => z = t0 ∨ z = 7) hE h2 := FF.tr (f2.mono (fun z hz => Or.inr hz))
    obtain ⟨ok, a, cq, gk⟩ := hcl2 j _ q hnj hq
    have ok2 := hc1.ok ok hB hA hp
    have nxt : ∀ (h' : JIH) (e' : Nat) (D' : Nat → Prop) (x5 x6 : Option Value), SA K t0 h' B x2.1 x2.2.1 e' D' → SF t0 h2 h' → J M h' 104 [some (.ref B), some (.ref ll), some (.ref itr), x5, x6] [] := by
      intro h' e' D' x5 x6 S3 f3
      refine J.goto (tgt := 5) X dX3_runs_104 (by decide) ?_
      refine ih (j + 1) x2 h' e' D' _ _ hr2 (by omega) hR S3 ok2.1 ok2.2.2 (LJ2.fr f3.1 (by omega) (by omega)) (fun j n q hn hq => ?_) (FF2.tr (f3.1.mono (fun z hz => Or.inl hz))) (f3.2.trans (e2.trans ii))
      obtain ⟨ok, a, c1, c2⟩ := hcl2 j n q hn hq
      exact ⟨ok, a, c1.fr f3.1 (by omega), c2.fr f3.1 (by omega)⟩
    obtain ⟨wh, nx, ah, wt, ht', ch, pn, fi, la, to, S, w⟩ := S2.ex
    refine J.castS X dX3_runs_20 cl_X3_201 jcl_10 (cq.1) ?_
    refine J.astore3 X dX3_runs_23 ?_
    refine J.aload3 X dX3_runs_24 ?_
    refine J.getf X dX3_runs_25 fl_X3_203_X10 (cq.1) rfl ?_
    refine J.callVi X dX3_runs_28 lk_X3_86_X8 ce_X8_told (key_told F gk) (by decide) rfl (gk.2.1) rfl (fun r' h3 e _ => ?_)
    obtain ⟨rfl, rfl⟩ := e
    have h09 := hB.1.2
    refine J.istore4 X dX3_runs_31 ?_
    refine J.aload3 X dX3_runs_33 ?_
    refine J.getf X dX3_runs_34 fl_X3_207_X10 (cq.1) rfl ?_
    rcases hc1 with ⟨e0, hc1⟩ | ⟨e0, hc1⟩ | ⟨e0, hc1⟩
    · -- get
      refine J.lsw (tgt := 64) X dX3_runs_37 (by decide) (off := 27) (by rw [e0]; rfl) (by decide) ?_
      refine J.aload0 X dX3_runs_64 ?_
      refine J.iload4 X dX3_runs_65 ?_
      rcases hc1 with ⟨hn, rfl⟩ | ⟨hn, s', gs, hT, rfl⟩
      · skip
        refine J.callVv X dX3_runs_67 lk_X3_210_X3 ce_X3_gets (sa_gets (fu := 0) (s' := x1.1) (gs := []) F S2 (by omega) (by have := hB.2.1; omega) (by have := hB.2.2.1; omega) ok.2.1 (fun z => absurd z hn)) (by decide) rfl (S.o) rfl (fun h3 e _ => ?_)
        obtain ⟨e, f3⟩ := e
        rcases e with ⟨-, D', S3⟩ | ⟨z, -⟩
        · refine J.goto (tgt := 104) X dX3_runs_70 (by decide) ?_
          exact nxt _ _ _ _ _ S3 f3
        · exact absurd z hn
      · refine J.callVv X dX3_runs_67 lk_X3_210_X3 ce_X3_gets (sa_gets F S2 (by omega) (by have := hB.2.1; omega) (by have := hB.2.2.1; omega) ok.2.1 (fun _ => hT)) (by decide) rfl (S.o) rfl (fun h3 e _ => ?_)
        obtain ⟨e, f3⟩ := e
        rcases e with ⟨z, -⟩ | ⟨-, e', D', S3⟩
        · exact absurd hn z
        refine J.goto (tgt := 104) X dX3_runs_70 (by decide) ?_
        exact nxt _ _ _ _ _ S3 f3
    · -- put
      have hx := ok.2.2.1 e0
      refine J.lsw (tgt := 73) X dX3_runs_37 (by decide) (off := 36) (by rw [e0]; rfl) (by decide) ?_
      refine J.aload3 X dX3_runs_73 ?_
      refine J.getf X dX3_runs_74 fl_X3_213_X10 (cq.1) rfl ?_
      refine J.aload0 X dX3_runs_77 ?_
      refine J.getf X dX3_runs_78 fl_X3_115_X3 (S.o) rfl ?_
      refine J.topi (y := nI ((x1.2.1 0))) (rfl) ?_
      rcases hc1 with ⟨hn, rfl⟩ | ⟨hn, s', gs, hT, rfl⟩
      · skip
        refine J.icmp_gtN (tgt := 104) X dX3_runs_81 (by decide) (by omega) (by omega) (fun _ => ?_) (fun q9 => absurd q9 (by omega))
        exact nxt _ _ _ _ _ S2 (SF.rf _ _)
      · refine J.icmp_gtN (tgt := 104) X dX3_runs_81 (by decide) (by omega) (by omega) (fun q9 => absurd q9 (by omega)) (fun _ => ?_)
        refine J.aload0 X dX3_runs_84 ?_
        refine J.iload4 X dX3_runs_85 ?_
        refine J.aload3 X dX3_runs_87 ?_
        refine J.getf X dX3_runs_88 fl_X3_213_X10 (cq.1) rfl ?_
        refine J.callVv X dX3_runs_91 lk_X3_214_X3 ce_X3_puts (sa_puts (v := 0) (co := 1) F S2 (by omega) (by have := hB.2.1; omega) (by have := hB.2.2.1; omega) hB.2.2.2 ok.2.1 hx (by decide) hT) (by decide) rfl (S.o) rfl (fun h3 e _ => ?_)
        obtain ⟨e', D', S3, f3⟩ := e
        refine J.goto (tgt := 104) X dX3_runs_94 (by decide) ?_
        exact nxt _ _ _ _ _ S3 f3
    · -- drop
      refine J.lsw (tgt := 97) X dX3_runs_37 (by decide) (off := 60) (by rw [e0]; rfl) (by decide) ?_
      refine J.aload0 X dX3_runs_97 ?_
      refine J.iload4 X dX3_runs_98 ?_
      refine J.callVi X dX3_runs_100 lk_X3_150_X3 ce_X3_loses (sa_loses F S2 ok.2.1) (by decide) rfl (S.o) rfl (fun r' h3 e _ => ?_)
      obtain ⟨rfl, S3, f3⟩ := e
      subst hc1
      refine J.pop X dX3_runs_103 ?_
      exact nxt _ _ _ _ _ S3 f3
