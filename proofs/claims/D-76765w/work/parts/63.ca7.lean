/-! Cache: traces run -/
/-- a clause: sign, key, weight -/
abbrev Cl : Type := Nat × Nat × Nat
def clok (q : Cl) : Prop := (q.1 = 103 ∨ q.1 = 112 ∨ q.1 = 120) ∧ q.2.1 < 400 ∧ (q.1 = 112 → 1 ≤ q.2.2 ∧ q.2.2 ≤ 9) ∧ q.2.2 ≤ 9
/-- a list of clauses (tag 12 the clauses) -/
def TR (t : Nat) (h : JIH) (l : Nat) (cl : List Cl) : Prop := ∃ (ns : List Nat) (it : Nat → Nat) (mc : Int32), LL t h l ns it mc ∧ ns.length = cl.length ∧ (∀ (j n : Nat) (q : Cl), ns[j]? = some n → cl[j]? = some q → clok q ∧ ∃ a, hc h 12 (it n) (jO 10 [.int (nI q.1), .int (nI q.2.2), .ref a]) ∧ IsKey h a q.2.1) ∧ cl.length ≤ 20
theorem TR.fr {t : Nat} {h h' : JIH} {l : Nat} {cl : List Cl} {T : Nat → Prop} (S : TR t h l cl) (g : Fr T h h') (ht : ¬ T t) (h1 : ¬ T 1) (h12 : ¬ T 12) : TR t h' l cl := by
  obtain ⟨ns, it, mc, L, hl, hc, h20⟩ := S
  refine ⟨ns, it, mc, L.fr g ht, hl, fun j n q hn hq => ?_, h20⟩
  obtain ⟨ok, a, c1, c2⟩ := hc j n q hn hq
  exact ⟨ok, a, c1.fr g h12, c2.fr g h1⟩
theorem TR.ob {t : Nat} {h : JIH} {l : Nat} {cl : List Cl} (S : TR t h l cl) : ∃ fs, hc h t l (jO 16 fs) := by
  obtain ⟨ns, it, mc, L, -⟩ := S
  exact ⟨_, L.ob⟩
abbrev AX : Type := AS × (Nat → Nat) × List Nat
def athing (s : AS) (k : Nat) : Prop := k ∈ s.1 1 ∨ k ∈ s.1 2
def acl (fu : Nat) (q : Cl) (x x' : AX) : Prop :=
  (q.1 = 103 ∧ ((¬ athing x.1 q.2.1 ∧ x' = (x.1, agetC x.1 x.2.1 q.2.1, x.2.2)) ∨ (athing x.1 q.2.1 ∧ ∃ s' gs, atrim (x.2.1 0) (x.2.1 1) fu (ahit x.1 (x.2.1 2) q.2.1) s' gs ∧ x' = (s', va_up (agetC x.1 x.2.1 q.2.1) 9 (x.2.1 9 + gs.length), (gs ++ x.2.2).take 20)))) ∨
  (q.1 = 112 ∧ ((x.2.1 0 < q.2.2 ∧ x' = x) ∨ (q.2.2 ≤ x.2.1 0 ∧ ∃ s' gs, atrim (aputC x.1 x.2.1 q.2.1 q.2.2 1 0) (aputC x.1 x.2.1 q.2.1 q.2.2 1 1) fu (aputS x.1 x.2.1 q.2.1 0 q.2.2 1) s' gs ∧ x' = (s', va_up (aputC x.1 x.2.1 q.2.1 q.2.2 1) 9 (aputC x.1 x.2.1 q.2.1 q.2.2 1 9 + gs.length), (gs ++ x.2.2).take 20)))) ∨
  (q.1 = 120 ∧ x' = (adrop x.1 q.2.1, x.2.1, x.2.2))
def aruns (fu : Nat) : List Cl → AX → AX → Prop
  | [], x, x' => x' = x
  | q :: r, x, x' => ∃ x1, acl fu q x x1 ∧ aruns fu r x1 x'
/-- settings in their bounds -/
def BC (C : Nat → Nat) : Prop := (1 ≤ C 0 ∧ C 0 ≤ 99) ∧ C 1 ≤ C 0 ∧ (1 ≤ C 2 ∧ C 2 ≤ 9) ∧ C 3 ≤ 9
theorem BC.up {C : Nat → Nat} (h : BC C) {j : Nat} (hj : 4 ≤ j) (x : Nat) : BC (va_up C j x) := by
  unfold BC
  rw [va_up_ne _ _ (by omega), va_up_ne _ _ (by omega), va_up_ne _ _ (by omega), va_up_ne _ _ (by omega)]
  exact h
theorem BC.get {C : Nat → Nat} (h : BC C) (s : AS) (k : Nat) : BC (agetC s C k) := by
  unfold agetC
  split
  · exact (h.up (by decide) _).up (by decide) _
  · split
    · exact h.up (by decide) _
    · exact (h.up (by decide) _).up (by decide) _
theorem BC.put {C : Nat → Nat} (h : BC C) (s : AS) (k x co : Nat) : BC (aputC s C k x co) := by
  unfold aputC
  split
  · exact h
  · obtain ⟨h0, h1, h2, h3⟩ := h
    unfold BC
    rw [va_up_self, va_up_ne _ _ (by decide), va_up_ne _ _ (by decide), va_up_ne _ _ (by decide), va_up_ne _ _ (by decide), va_up_ne _ _ (by decide), va_up_ne _ _ (by decide)]
    refine ⟨h0, ?_, h2, h3⟩
    split
    · omega
    · split <;> omega
/-- one clause leaves all as it should be -/
theorem acl.ok {fu : Nat} {q : Cl} {x x' : AX} {PL : List Nat} (h : acl fu q x x') (hq : clok q) (hB : BC x.2.1) (hA : AW x.1) (hp : TP x.1 PL) : BC x'.2.1 ∧ AW x'.1 ∧ TP x'.1 PL := by
  rcases h with ⟨-, ⟨-, rfl⟩ | ⟨ht, s', gs, hT, rfl⟩⟩ | ⟨e, ⟨-, rfl⟩ | ⟨-, s', gs, hT, rfl⟩⟩ | ⟨-, rfl⟩
  · exact ⟨hB.get _ _, hA, hp⟩
  · have := TP.trim (hp.hit ht) (hA.hit ht) hT
    exact ⟨(hB.get _ _).up (by decide) _, this.2, this.1⟩
  · exact ⟨hB, hA, hp⟩
  · have := TP.trim (hp.put _ _ _ _ _) (hA.put hq.2.1 (hq.2.2.1 e) (by decide) hB.2.2.2) hT
    exact ⟨(hB.put _ _ _ _).up (by decide) _, this.2, this.1⟩
  · exact ⟨hB, hA.drop _, hp.drop _⟩
theorem cost_step {c e a0 b0 r1 r2 r3 t1 t2 t3 p2 p3 : Nat} (h1 : r2 + t1 + p2 * c ≤ r1 + (a0 * c + e * c) + t2) (h2 : r3 + t2 + p3 * c ≤ r2 + (b0 * c + 5 * c) + t3) (h3 : b0 ≤ p2 + 12) : r3 + t1 + p3 * c ≤ r1 + (a0 * c + (e + 20) * c) + t3 := by
  have h4 := Nat.mul_le_mul_right c h3
  rw [Nat.add_mul] at h4
  rw [Nat.add_mul]
  omega
theorem k_gets0 {K : JK} {l : Launch} {hE : JIH} {b c : Nat} {y : CY} {s : AS} {C : Nat → Nat} {G : List Nat} {ta : Nat → Nat} {D : List Nat} {tz : Nat}  (F : JF K) (S : CC K b hE c y s C G ta D tz) {k a : Nat} (g : IsKey hE a k) (hq : ¬ athing s k) :
    Ct K l yX1_gets wX1_gets 11 [.ref c, .ref a] hE (jRa (fun r h' => r = none ∧ CC K b h' c y s (agetC s C k) G ta D tz ∧ CF b hE tz 0 h' tz)) jNo := by
  have hb := S.bb
  have hq : ¬ (k ∈ s.1 1 ∨ k ∈ s.1 2) := hq
  refine st_X1_gets (ls := [some (.ref c), some (.ref a), none]) F rfl (body := fun M X => ?_)
  refine J.aload0 X dX1_gets_0 ?_
  refine J.aload1 X dX1_gets_1 ?_
  refine J.callVa X dX1_gets_2 lk_X1_200_X1 ce_X1_thing (k_thing F S g) (by decide) rfl (S.o.1) rfl (fun r h' e _ => ?_)
  obtain ⟨rfl, rfl⟩ := e
  rw [if_neg hq]
  refine J.astore2 X dX1_gets_5 ?_
  refine J.aload2 X dX1_gets_6 ?_
  refine J.ifnonnullN (a := 0) (tgt := 40) X dX1_gets_7 (by decide) ?_
  refine J.aload0 X dX1_gets_10 ?_
  refine J.dup X dX1_gets_11 ?_
  refine J.getf X dX1_gets_12 fl_X1_52_X1 (S.o.1) rfl ?_
  refine J.iconst (v := nI 1) X dX1_gets_15 (by decide) ?_
  refine J.iaddN X dX1_gets_16 ?_
  refine J.putf X dX1_gets_17 (pl_X1_52_X1 _) (S.o.1) (Nat.le_of_ble_eq_true rfl) (rfl) (rfl) ?_
  have S1 := S.wo (va_up C 5 (C 5 + 1))
  have F1 := S.woF (va_up C 5 (C 5 + 1))
  have g1 := g.fr F1.1.1 (CT.n1 hb)
  show J M (hset hE c (jO 1 (caO (va_up C 5 (C 5 + 1)) y (bS s)))) _ _ _
  generalize hset hE c (jO 1 (caO (va_up C 5 (C 5 + 1)) y (bS s))) = h1 at S1 F1 g1
  have hw4 := awhere_le s k
  refine J.aload0 X dX1_gets_20 ?_
  refine J.aload1 X dX1_gets_21 ?_
  refine J.callVi X dX1_gets_22 lk_X1_191_X1 ce_X1_where (k_where F S1 g1) (by decide) rfl (S1.o.1) rfl (fun r h' e _ => ?_)
  obtain ⟨rfl, rfl⟩ := e
  refine J.if_eqN (tgt := 38) X dX1_gets_25 (by decide) (by omega) (fun c1 => ?_) (fun c1 => ?_)
  · skip
    refine J.aconst_null X dX1_gets_38 ?_
    refine J.areturnO X dX1_gets_39 (jRa.ofN ?_)
    refine ⟨rfl, ?_, F1⟩
    unfold agetC
    rw [if_neg hq, if_pos c1]
    exact S1
  · skip
    refine J.aload0 X dX1_gets_28 ?_
    refine J.dup X dX1_gets_29 ?_
    refine J.getf X dX1_gets_30 fl_X1_55_X1 (S1.o.1) rfl ?_
    refine J.iconst (v := nI 1) X dX1_gets_33 (by decide) ?_
    refine J.iaddN X dX1_gets_34 ?_
    refine J.putf X dX1_gets_35 (pl_X1_55_X1 _) (S1.o.1) (Nat.le_of_ble_eq_true rfl) (rfl) (rfl) ?_
    refine J.aconst_null X dX1_gets_38 ?_
    refine J.areturnO X dX1_gets_39 (jRa.ofN ?_)
    refine ⟨rfl, ?_, F1.tr (S1.woF (va_up (va_up C 5 (C 5 + 1)) 6 (C 6 + 1)))⟩
    unfold agetC
    rw [if_neg hq, if_neg c1]
    exact S1.wo (va_up (va_up C 5 (C 5 + 1)) 6 (C 6 + 1))
theorem k_runs {K : JK} {l : Launch} {hE : JIH} {b c : Nat} {y : CY} {x x' : AX} {ta : Nat → Nat} {D : List Nat} {tz fu t ll : Nat} {PL : List Nat} {cl : List Cl} (F : JF K) (S : CC K b hE c y x.1 x.2.1 x.2.2 ta D tz) (hB : BC x.2.1) (hp : TP x.1 PL) (T : TR t hE ll cl) (ht : t ≠ 7 ∧ t ≠ 6 ∧ (t ≤ b ∨ b + 8 ≤ t)) (hR : aruns fu cl x x') (rm : RM hE tz (Phi x.1 * cst PL.length + (20 * cl.length + 10) * cst PL.length)) :
    Ct K l yX1_runs wX1_runs 12 [.ref c, .ref ll] hE (jRv (fun h' => (∃ ta' D' tz', CC K b h' c y x'.1 x'.2.1 x'.2.2 ta' D' tz' ∧ hres h' + tz + Phi x'.1 * cst PL.length ≤ hres hE + (Phi x.1 * cst PL.length + (20 * cl.length + 1) * cst PL.length) + tz') ∧ Fr (fun z => CT b z ∨ z = 7) hE h')) jNo := by
  have hb := S.bb
  have c110 : 110 ≤ cst PL.length := by unfold cst; omega
  have T0 := T
  obtain ⟨fs, ob⟩ := T.ob
  obtain ⟨ns, it, mc, L, hl, hcl, h20⟩ := T
  have rm0 : hres hE + 13 ≤ jRL := by
    have := S.rm8 (rm.mono (c1 := 0) (Nat.zero_le _))
    omega
  refine st_X1_runs (ls := [some (.ref c), some (.ref ll), none, none]) F rfl (body := fun M X => ?_)
  refine J.aload1 X dX1_runs_0 ?_
  refine J.callUa X dX1_runs_1 lk_X1_215_J7 ce_J6_iterator (ll_iter F L (by omega) ht.1 rm0) (by decide) rfl (ob.1) rfl (fun r h1 e _ => ?_)
  obtain ⟨itr, rfl, LJ, f1, e1⟩ := e
  refine J.astore2 X dX1_runs_4 ?_
  have S1 := S.fr f1 (by omega) (by decide)
  have hcl1 : ∀ (j n : Nat) (q : Cl), ns[j]? = some n → cl[j]? = some q → clok q ∧ ∃ a, hc h1 12 (it n) (jO 10 [.int (nI q.1), .int (nI q.2.2), .ref a]) ∧ IsKey h1 a q.2.1 := by
    intro j n q hn hq
    obtain ⟨ok, a, c1, c2⟩ := hcl j n q hn hq
    exact ⟨ok, a, c1.fr f1 (by decide), c2.fr f1 (by decide)⟩
  have F1 : Fr (fun z => CT b z ∨ z = 7) hE h1 := f1.mono (fun z hz => Or.inr hz)
  have i1 : hres h1 + tz + Phi x.1 * cst PL.length ≤ hres hE + (Phi x.1 * cst PL.length + (20 * 0 + 1) * cst PL.length) + tz := by omega
  suffices loop : ∀ (r : List Cl) (j : Nat) (x1 : AX) (h : JIH) (ta : Nat → Nat) (D : List Nat) (tz1 : Nat) (x3 : Option Value), cl.drop j = r → j ≤ cl.length → aruns fu r x1 x' → CC K b h c y x1.1 x1.2.1 x1.2.2 ta D tz1 → BC x1.2.1 → TP x1.1 PL → LLJ t h ll ns it mc itr j → (∀ (j n : Nat) (q : Cl), ns[j]? = some n → cl[j]? = some q → clok q ∧ ∃ a, hc h 12 (it n) (jO 10 [.int (nI q.1), .int (nI q.2.2), .ref a]) ∧ IsKey h a q.2.1) → Fr (fun z => CT b z ∨ z = 7) hE h → hres h + tz + Phi x1.1 * cst PL.length ≤ hres hE + (Phi x.1 * cst PL.length + (20 * j + 1) * cst PL.length) + tz1 → J M h 5 [some (.ref c), some (.ref ll), some (.ref itr), x3] [] from loop cl 0 x h1 ta D tz none rfl (Nat.zero_le _) hR S1 hB hp LJ hcl1 F1 i1
  clear S1 LJ hcl1 F1 i1 hcl L S hR hB hp f1 e1
  intro r
  induction r with
  | nil =>
    intro j x1 h ta D tz1 x3 hr hj hR S hB hp LJ hcl FF ii
    have hjl : j = cl.length := by
      have := congrArg List.length hr
      rw [List.length_drop, List.length_nil] at this
      omega
    obtain ⟨fs, oi⟩ := LJ.ob
    refine J.aload2 X dX1_runs_5 ?_
    refine J.callFi X dX1_runs_6 lk_X1_81_J41 ce_J41_hasNext (ll_has F LJ (by omega) (by omega)) (by decide) rfl (oi.1) rfl (fun r h' e _ => ?_)
    obtain ⟨rfl, rfl⟩ := e
    refine J.if_eqB (tgt := 109) X dX1_runs_11 (by decide) (fun _ => ?_) (fun q9 => absurd q9 (fun z => by omega))
    refine J.vreturn X dX1_runs_109 (jRv.of ?_)
    have hR : x' = x1 := hR
    subst hR
    refine ⟨⟨ta, D, tz1, S, ?_⟩, FF⟩
    rw [hjl] at ii
    exact ii
  | cons q r ih =>
    intro j x1 h ta D tz1 x3 hr hj hR S hB hp LJ hcl FF ii
    obtain ⟨x2, hc1, hR⟩ := hR
    have hjl : j < cl.length := by
      have := congrArg List.length hr
      rw [List.length_drop, List.length_cons] at this
      omega
    have hq : cl[j]? = some q := by
      have := congrArg List.head? hr
      rw [List.head?_drop] at this
      exact this
    have hr2 : cl.drop (j + 1) = r := by rw [← List.drop_drop, hr]; rfl
    have hnj : ns[j]? = some ns[j] := List.getElem?_eq_getElem (by omega)
    have hA := S.aw
    obtain ⟨fs, oi⟩ := LJ.ob
    refine J.aload2 X dX1_runs_5 ?_
    refine J.callFi X dX1_runs_6 lk_X1_81_J41 ce_J41_hasNext (ll_has F LJ (by omega) (by omega)) (by decide) rfl (oi.1) rfl (fun r' h' e _ => ?_)
    obtain ⟨rfl, rfl⟩ := e
    refine J.if_eqB (tgt := 109) X dX1_runs_11 (by decide) (fun q9 => absurd q9 (fun z => z (by omega))) (fun _ => ?_)
    refine J.aload2 X dX1_runs_14 ?_
    refine J.callFa X dX1_runs_15 lk_X1_87_J41 ce_J41_next (ll_next F LJ (by omega) hnj ht.1) (by decide) rfl (oi.1) rfl (fun r' h2 e _ => ?_)
    obtain ⟨rfl, LJ2, f2, e2⟩ := e
    have S2 := S.fr f2 (by omega) (by decide)
    have hcl2 : ∀ (j n : Nat) (q : Cl), ns[j]? = some n → cl[j]? = some q → clok q ∧ ∃ a, hc h2 12 (it n) (jO 10 [.int (nI q.1), .int (nI q.2.2), .ref a]) ∧ IsKey h2 a q.2.1 := by
      intro j n q hn hq
      obtain ⟨ok, a, c1, c2⟩ := hcl j n q hn hq
      exact ⟨ok, a, c1.fr f2 (by decide), c2.fr f2 (by decide)⟩
    have FF2 : Fr (fun z => CT b z ∨ z = 7) hE h2 := FF.tr (f2.mono (fun z hz => Or.inr hz))
    have ii2 : hres h2 + tz + Phi x1.1 * cst PL.length ≤ hres hE + (Phi x.1 * cst PL.length + (20 * j + 1) * cst PL.length) + tz1 := by omega
    obtain ⟨ok, a, cq, gk⟩ := hcl2 j _ q hnj hq
    have ok2 := hc1.ok ok hB hA hp
    have hsum : (20 * j + 1 + 20) * cst PL.length ≤ (20 * cl.length + 1) * cst PL.length := Nat.mul_le_mul_right _ (by omega)
    have em1 : (20 * j + 1 + 20) * cst PL.length = (20 * j + 1) * cst PL.length + 20 * cst PL.length := Nat.add_mul _ _ _
    have em2 : (20 * cl.length + 10) * cst PL.length = (20 * cl.length + 1) * cst PL.length + 9 * cst PL.length := by rw [← Nat.add_mul]
    -- the next clause
    have nxt : ∀ (h' : JIH) (ta : Nat → Nat) (D : List Nat) (tz2 b0 : Nat) (x4 : Option Value), CC K b h' c y x2.1 x2.2.1 x2.2.2 ta D tz2 → Fr (CT b) h2 h' → hres h' + tz1 + Phi x2.1 * cst PL.length ≤ hres h2 + (b0 * cst PL.length + 5 * cst PL.length) + tz2 → b0 ≤ Phi x1.1 + 12 → J M h' 106 [some (.ref c), some (.ref ll), some (.ref itr), x4] [] := by
      intro h' ta D tz2 b0 x4 S3 f3 i3 i4
      refine J.goto (tgt := 5) X dX1_runs_106 (by decide) ?_
      refine ih (j + 1) x2 h' ta D tz2 _ hr2 (by omega) hR S3 ok2.1 ok2.2.2 (LJ2.fr f3 (by unfold CT; omega) (by unfold CT; omega)) (fun j n q hn hq => ?_) (FF2.tr (f3.mono (fun z hz => Or.inl hz))) ?_
      · obtain ⟨ok, a, c1, c2⟩ := hcl2 j n q hn hq
        exact ⟨ok, a, c1.fr f3 (by unfold CT; omega), c2.fr f3 (by unfold CT; omega)⟩
      · have := cost_step ii2 i3 i4
        rw [show 20 * (j + 1) + 1 = 20 * j + 1 + 20 by omega]
        exact this
    refine J.castS X dX1_runs_20 cl_X1_218 jcl_10 (cq.1) ?_
    refine J.astore3 X dX1_runs_23 ?_
    refine J.aload3 X dX1_runs_24 ?_
    refine J.getf X dX1_runs_25 fl_X1_220_X10 (cq.1) rfl ?_
    rcases hc1 with ⟨e0, hc1⟩ | ⟨e0, hc1⟩ | ⟨e0, hc1⟩
    · -- get
      refine J.lsw (tgt := 56) X dX1_runs_28 (by decide) (off := 28) (by rw [e0]; rfl) (by decide) ?_
      refine J.aload0 X dX1_runs_56 ?_
      refine J.aload3 X dX1_runs_57 ?_
      refine J.getf X dX1_runs_58 fl_X1_223_X10 (cq.1) rfl ?_
      rcases hc1 with ⟨hn, rfl⟩ | ⟨hn, s', gs, hT, rfl⟩
      · skip
        refine J.callVa X dX1_runs_61 lk_X1_224_X1 ce_X1_gets (k_gets0 F S2 gk hn) (by decide) rfl (S2.o.1) rfl (fun r' h3 e _ => ?_)
        obtain ⟨rfl, S3, F3⟩ := e
        refine J.pop X dX1_runs_64 ?_
        refine J.goto (tgt := 106) X dX1_runs_65 (by decide) ?_
        refine nxt _ _ _ _ (Phi x1.1) _ S3 F3.1.1 ?_ (by omega)
        have h5 := F3.2
        show hres h3 + tz1 + Phi x1.1 * cst PL.length ≤ _
        omega
      · have hph := Phi.hit (ris := x1.2.1 2) hA hn
        have h6 := Nat.mul_le_mul_right (cst PL.length) hph
        rw [Nat.add_mul, Nat.one_mul] at h6
        have rm2 : RM h2 tz1 (Phi (ahit x1.1 (x1.2.1 2) q.2.1) * cst PL.length + 8 * cst PL.length) := by
          unfold RM at rm ⊢
          omega
        refine J.callVa X dX1_runs_61 lk_X1_224_X1 ce_X1_gets (k_gets F S2 (by have := hB.1; omega) (by have := hB.1; have := hB.2.1; omega) (by have := hB.2.2.1; omega) gk ((hp.hit hn).np (hA.hit hn)) (fun _ => hT) rm2) (by decide) rfl (S2.o.1) rfl (fun r' h3 e _ => ?_)
        rcases e with ⟨z, -⟩ | ⟨-, tt, fs', ta', D', tz', rfl, -, S3, cg, -⟩
        · exact absurd hn z
        refine J.pop X dX1_runs_64 ?_
        refine J.goto (tgt := 106) X dX1_runs_65 (by decide) ?_
        exact nxt _ _ _ _ _ _ S3 cg.1.1 cg.2 (by omega)
    · -- put
      have hx := ok.2.2.1 e0
      refine J.lsw (tgt := 68) X dX1_runs_28 (by decide) (off := 40) (by rw [e0]; rfl) (by decide) ?_
      have h09 := hB.1.2
      refine J.aload3 X dX1_runs_68 ?_
      refine J.getf X dX1_runs_69 fl_X1_227_X10 (cq.1) rfl ?_
      refine J.aload0 X dX1_runs_72 ?_
      refine J.getf X dX1_runs_73 fl_X1_9_X1 (S2.o.1) rfl ?_
      rcases hc1 with ⟨hn, rfl⟩ | ⟨hn, s', gs, hT, rfl⟩
      · skip
        refine J.icmp_gtN (tgt := 106) X dX1_runs_76 (by decide) (by omega) (by omega) (fun _ => ?_) (fun q9 => absurd q9 (by omega))
        refine nxt _ _ _ _ (Phi x2.1) _ S2 (Fr.rf _ _) ?_ (by omega)
        omega
      · refine J.icmp_gtN (tgt := 106) X dX1_runs_76 (by decide) (by omega) (by omega) (fun q9 => absurd q9 (by omega)) (fun _ => ?_)
        have hph := Phi.put (s := x1.1) (C := x1.2.1) (k := q.2.1) (v := 0) hA hx (show 1 ≤ 99 by decide) hB.2.2.2
        have h6 := Nat.mul_le_mul_right (cst PL.length) hph
        rw [Nat.add_mul] at h6
        have rm2 : RM h2 tz1 (Phi (aputS x1.1 x1.2.1 q.2.1 0 q.2.2 1) * cst PL.length + 8 * cst PL.length) := by
          unfold RM at rm ⊢
          omega
        refine J.aload0 X dX1_runs_79 ?_
        refine J.aload3 X dX1_runs_80 ?_
        refine J.getf X dX1_runs_81 fl_X1_223_X10 (cq.1) rfl ?_
        refine J.iconst (v := nI 0) X dX1_runs_84 (by decide) ?_
        refine J.aload3 X dX1_runs_85 ?_
        refine J.getf X dX1_runs_86 fl_X1_227_X10 (cq.1) rfl ?_
        refine J.iconst (v := nI 1) X dX1_runs_89 (by decide) ?_
        refine J.callVi X dX1_runs_90 lk_X1_228_X1 ce_X1_puts (k_puts (v := 0) F S2 (by omega) (by have := hB.2.1; omega) (by have := hB.2.2.1; omega) hB.2.2.2 gk hx (by decide) ((hp.put x1.2.1 q.2.1 0 q.2.2 1).np (hA.put ok.2.1 hx (by decide) hB.2.2.2)) hT rm2) (by decide) rfl (S2.o.1) rfl (fun r' h3 e _ => ?_)
        obtain ⟨rfl, ta', D', tz', S3, cg, -⟩ := e
        refine J.pop X dX1_runs_93 ?_
        refine J.goto (tgt := 106) X dX1_runs_94 (by decide) ?_
        exact nxt _ _ _ _ _ _ S3 cg.1 cg.2 hph
    · -- drop
      refine J.lsw (tgt := 97) X dX1_runs_28 (by decide) (off := 69) (by rw [e0]; rfl) (by decide) ?_
      refine J.aload0 X dX1_runs_97 ?_
      refine J.aload3 X dX1_runs_98 ?_
      refine J.getf X dX1_runs_99 fl_X1_223_X10 (cq.1) rfl ?_
      refine J.callVi X dX1_runs_102 lk_X1_232_X1 ce_X1_drops (k_drops F S2 gk) (by decide) rfl (S2.o.1) rfl (fun r' h3 e _ => ?_)
      obtain ⟨rfl, S3, F3⟩ := e
      subst hc1
      refine J.pop X dX1_runs_105 ?_
      have hd := Phi.drop x1.1 q.2.1
      refine nxt _ _ _ _ (Phi x1.1) _ S3 F3.1.1 ?_ (by omega)
      have h5 := F3.2
      have h6 := Nat.mul_le_mul_right (cst PL.length) hd
      show hres h3 + tz1 + Phi (adrop x1.1 q.2.1) * cst PL.length ≤ _
      omega
