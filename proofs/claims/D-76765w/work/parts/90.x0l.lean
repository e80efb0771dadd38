/-! SegmentedCache: feed, looked -/
theorem GX.re {K : JK} {h h' : JIH} {o : Nat} {p : GP} {g : GA} {tz tzi : Nat} {T : Nat → Prop} (S : GX K h o p g tz tzi) (f : Fr T h h') (hT : ∀ z, T z → z = 8 ∨ z = 60 ∨ z = 61 ∨ z = 62) (tx' : List Nat) (bk' : List (Nat × Nat)) (ho : hc h' 8 o (jO 0 (x0O p ((g.wtx tx').wbk bk')))) (ht : GT K h' p.tx tx') (hb : GB K h' 61 p.bk p.bw bk') : GX K h' o p ((g.wtx tx').wbk bk') tz tzi := by
  obtain ⟨s1, ⟨ta, D, s2⟩, ⟨ta', D', s3⟩, s4, s5, s6, s7, s8, s9, s10, s11, s12, s13⟩ := S
  have nb : ∀ z, z ≠ 8 → z ≠ 60 → z ≠ 61 → z ≠ 62 → ¬ T z := fun z a b c d q => by
    have := hT z q
    omega
  have n1 : ¬ T 1 := nb 1 (by decide) (by decide) (by decide) (by decide)
  refine ⟨ho, ⟨ta, D, s2.fr f (fun x a b => nb x (by omega) (by omega) (by omega) (by omega)) n1⟩, ⟨ta', D', s3.fr f (fun x a b => nb x (by omega) (by omega) (by omega) (by omega)) n1⟩, s4.fr f (nb _ (by decide) (by decide) (by decide) (by decide)), s5.fr f (nb _ (by decide) (by decide) (by decide) (by decide)), ht, s7.fr f n1 (nb _ (by decide) (by decide) (by decide) (by decide)) (nb _ (by decide) (by decide) (by decide) (by decide)) (fun i hi => nb _ (by omega) (by omega) (by omega) (by omega)), hb, s9.fr f n1 (nb _ (by decide) (by decide) (by decide) (by decide)) (nb _ (by decide) (by decide) (by decide) (by decide)), ?_, s11, s12, s13⟩
  obtain ⟨⟨q, c, r⟩, w⟩ := s10
  refine ⟨⟨q, c.fr f (nb _ (by decide) (by decide) (by decide) (by decide)), r⟩, fun i hi => ?_⟩
  obtain ⟨r, c, v⟩ := w i hi
  exact ⟨r, c.fr f (nb _ (by omega) (by omega) (by omega) (by omega)), v.fr f (nb _ (by omega) (by omega) (by omega) (by omega))⟩
theorem GX.gt {K : JK} {h : JIH} {o : Nat} {p : GP} {g : GA} {tz tzi : Nat} (S : GX K h o p g tz tzi) : GT K h p.tx g.tx := S.2.2.2.2.2.1
theorem GX.gb {K : JK} {h : JIH} {o : Nat} {p : GP} {g : GA} {tz tzi : Nat} (S : GX K h o p g tz tzi) : GB K h 61 p.bk p.bw g.bk := S.2.2.2.2.2.2.2.1
def alook (s : AS) : List (Nat × Nat) → Nat → Int32
  | [], _ => -5
  | q :: r, n => if awhere s q.1 = q.2 then alook s r (n + 1) else nI n
theorem x_looked {K : JK} {l : Launch} {hE : JIH} {o : Nat} {p : GP} {g : GA} {tz tzi : Nat} (F : JF K) (S : GX K hE o p g tz tzi) :
    Ct K l yX0_looked wX0_looked 12 [.ref o] hE (jRi (fun r0 h' => r0 = alook g.x.1 g.bk 0 ∧ hE = h')) jNo := by
  have so := S.o.1
  obtain ⟨ta, D, S1⟩ := S.cc
  have co := S1.o.1
  obtain ⟨f, v, c1, c2, h1, -, h8⟩ := S.gb
  refine st_X0_looked (ls := [some (.ref o), none]) F rfl (body := fun M X => ?_)
  refine J.iconst (v := nI 0) X dX0_looked_0 (by decide) ?_
  refine J.istore1 X dX0_looked_1 ?_
  suffices loop : ∀ (r : List (Nat × Nat)) (j : Nat), g.bk.drop j = r → j ≤ g.bk.length → alook g.x.1 r j = alook g.x.1 g.bk 0 → J M hE 2 [some (.ref o), some (.int (nI j))] [] from loop g.bk 0 rfl (Nat.zero_le _) rfl
  intro r
  induction r with
  | nil =>
    intro j hr hj er
    have hjl : j = g.bk.length := by
      have := congrArg List.length hr
      rw [List.length_drop, List.length_nil] at this
      omega
    refine J.iload1 X dX0_looked_2 ?_
    refine J.aload0 X dX0_looked_3 ?_
    refine J.getf X dX0_looked_4 fl_X0_296_X0 (so) rfl ?_
    refine J.icmp_geN (tgt := 40) X dX0_looked_7 (by decide) (by omega) (by omega) (fun _ => ?_) (fun q9 => absurd q9 (by omega))
    refine J.bipush (v := -5) X dX0_looked_40 (by decide) ?_
    refine J.zreturn X dX0_looked_42 (rfl) (jRi.of ?_)
    exact ⟨er, rfl⟩
  | cons q r ih =>
    intro j hr hj er
    have hjl : j < g.bk.length := by
      have := congrArg List.length hr
      rw [List.length_drop, List.length_cons] at this
      omega
    have hq : g.bk[j]? = some q := by
      have := congrArg List.head? hr
      rw [List.head?_drop] at this
      exact this
    have hr2 : g.bk.drop (j + 1) = r := by rw [← List.drop_drop, hr]; rfl
    obtain ⟨e1, e2, b, e3, gk⟩ := h1 j q hq
    have a4 := awhere_le g.x.1 q.1
    have eu : alook g.x.1 (q :: r) j = if awhere g.x.1 q.1 = q.2 then alook g.x.1 r (j + 1) else nI j := rfl
    rw [eu] at er
    refine J.iload1 X dX0_looked_2 ?_
    refine J.aload0 X dX0_looked_3 ?_
    refine J.getf X dX0_looked_4 fl_X0_296_X0 (so) rfl ?_
    refine J.icmp_geN (tgt := 40) X dX0_looked_7 (by decide) (by omega) (by omega) (fun q9 => absurd q9 (by omega)) (fun _ => ?_)
    refine J.aload0 X dX0_looked_10 ?_
    refine J.getf X dX0_looked_11 fl_X0_18_X0 (so) rfl ?_
    refine J.aload0 X dX0_looked_14 ?_
    refine J.getf X dX0_looked_15 fl_X0_45_X0 (so) rfl ?_
    refine J.iload1 X dX0_looked_18 ?_
    refine J.aald (t := 7) X dX0_looked_19 c1.1 rfl rfl (by omega) ?_
    rw [e3]
    refine J.callVi X dX0_looked_20 lk_X0_172_X1 ce_X1_where (k_where F S1 gk) (by decide) rfl (co) rfl (fun r0 h2 e _ => ?_)
    obtain ⟨rfl, rfl⟩ := e
    refine J.aload0 X dX0_looked_23 ?_
    refine J.getf X dX0_looked_24 fl_X0_49_X0 (so) rfl ?_
    refine J.iload1 X dX0_looked_27 ?_
    refine J.iald X dX0_looked_28 c2.1 rfl (by omega) ?_
    rw [e1]
    refine J.icmp_eqN (tgt := 34) X dX0_looked_29 (by decide) (by omega) (by omega) (fun c3 => ?_) (fun c3 => ?_)
    · skip
      rw [if_pos c3] at er
      refine J.iinc1N (d := 1) X dX0_looked_34 (by decide) ?_
      refine J.goto (tgt := 2) X dX0_looked_37 (by decide) ?_
      exact ih (j + 1) hr2 (by omega) er
    · skip
      rw [if_neg c3] at er
      refine J.iload1 X dX0_looked_32 ?_
      refine J.zreturn X dX0_looked_33 (rfl) (jRi.of ?_)
      exact ⟨er, rfl⟩
