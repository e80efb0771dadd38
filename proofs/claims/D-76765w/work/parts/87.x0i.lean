/-! SegmentedCache: odds, mean -/
def aoddsL (v : Nat → Nat) (x : Nat) : Nat → Nat
  | 0 => 0
  | n + 1 => aoddsL v x n + if x ≤ v n then 1 else 0
theorem aoddsL_le (v : Nat → Nat) (x : Nat) : ∀ n, aoddsL v x n ≤ n
  | 0 => Nat.le_refl _
  | n + 1 => by
    have := aoddsL_le v x n
    unfold aoddsL
    split <;> omega
def godds (fu : Nat) (g : GA) (t x q : Int32) (r : Int64) : Prop := (¬ ((nI 0 ≤ t ∧ t ≤ nI g.cls.length - nI 1) ∧ (nI 0 ≤ x ∧ x ≤ nI 20) ∧ (nI 0 ≤ q ∧ q ≤ nI 1)) ∧ r = tNO) ∨ ((nI 0 ≤ t ∧ t ≤ nI g.cls.length - nI 1) ∧ (nI 0 ≤ x ∧ x ≤ nI 20) ∧ (nI 0 ≤ q ∧ q ≤ nI 1) ∧ ∃ j c a b v, g.cls[j]? = some c ∧ t = nI j ∧ x = nI a ∧ a ≤ 20 ∧ q = nI b ∧ b < 2 ∧ (∀ n, n ≤ g.x.2.1 0 → ahadR fu g c (g.x.2.1 0) n (v n) ∧ v n ≤ 1000) ∧ r = lN ((if b = 0 then aoddsL v a (g.x.2.1 0 + 1) else g.x.2.1 0 + 1) / Nat.gcd (aoddsL v a (g.x.2.1 0 + 1)) (g.x.2.1 0 + 1)))
theorem x_odds {K : JK} {l : Launch} {hE : JIH} {o : Nat} {p : GP} {g : GA} {tz tzi : Nat} (F : JF K) (S : GX K hE o p g tz tzi) {PL : List Nat} (hp : TP g.x.1 PL) {fu : Nat} {t x q : Int32} {r : Int64} (hf : godds fu g t x q r) (rm : RM hE tz 1400) :
    Ct K l yX0_odds wX0_odds 12 [.ref o, .int t, .int x, .int q] hE (jRl (fun r0 h' => r0 = r ∧ GX K h' o p g tz tzi ∧ hres h' ≤ hres hE + 1400 ∧ Fr n5 hE h')) jNo := by
  have so := S.o.1
  obtain ⟨ta, D, S1⟩ := S.cc
  have co := S1.o.1
  have hB := S.bc
  have h09 := hB.1.2
  have h01 := hB.1.1
  obtain ⟨fs, ob⟩ := S.z3.ob
  refine st_X0_odds (ls := [some (.ref o), some (.int t), some (.int x), some (.int q), none, none, none]) F rfl (body := fun M X => ?_)
  have bad : ¬ ((nI 0 ≤ t ∧ t ≤ nI g.cls.length - nI 1) ∧ (nI 0 ≤ x ∧ x ≤ nI 20) ∧ (nI 0 ≤ q ∧ q ≤ nI 1)) → J M hE 27 [some (.ref o), some (.int t), some (.int x), some (.int q), none, none, none] [] := fun kb => by
    rcases hf with ⟨-, rfl⟩ | ⟨q1, q2, q3, -⟩
    · skip
      refine J.ldc2 (v := (-9223372036854775808)) X dX0_odds_27 q2069 ?_
      refine J.lreturn X dX0_odds_30 (jRl.of ?_)
      exact ⟨rfl, S, by omega, Fr.rf _ _⟩
    · exact absurd ⟨q1, q2, q3⟩ kb
  refine J.aload0 X dX0_odds_0 ?_
  refine J.iload1 X dX0_odds_1 ?_
  refine J.callVi X dX0_odds_2 lk_X0_250_X0 ce_X0_isTrace (x_isTrace F S t) (by decide) rfl (so) rfl (fun r0 h2 e _ => ?_)
  obtain ⟨rfl, rfl⟩ := e
  refine J.if_eqB (tgt := 27) X dX0_odds_5 (by decide) (fun c1 => ?_) (fun c1 => ?_)
  · skip
    exact bad (fun z => c1 z.1)
  refine J.iload2 X dX0_odds_8 ?_
  refine J.iconst (v := nI 0) X dX0_odds_9 (by decide) ?_
  refine J.bipush (v := nI 20) X dX0_odds_10 (by decide) ?_
  refine J.callSi X dX0_odds_12 lk_X0_5 ce_X0_in (x_in F x 0 20) (by decide) rfl (fun r0 h2 e _ => ?_)
  obtain ⟨rfl, rfl⟩ := e
  refine J.if_eqB (tgt := 27) X dX0_odds_15 (by decide) (fun c2 => ?_) (fun c2 => ?_)
  · skip
    exact bad (fun z => c2 z.2.1)
  refine J.iload3 X dX0_odds_18 ?_
  refine J.iconst (v := nI 0) X dX0_odds_19 (by decide) ?_
  refine J.iconst (v := nI 1) X dX0_odds_20 (by decide) ?_
  refine J.callSi X dX0_odds_21 lk_X0_5 ce_X0_in (x_in F q 0 1) (by decide) rfl (fun r0 h2 e _ => ?_)
  obtain ⟨rfl, rfl⟩ := e
  by_cases c3 : nI 0 ≤ q ∧ q ≤ nI 1
  case neg =>
    refine J.if_neB (tgt := 31) X dX0_odds_24 (by decide) (fun q9 => absurd q9 (c3)) (fun _ => ?_)
    exact bad (fun z => c3 z.2.2)
  rcases hf with ⟨qq, -⟩ | ⟨-, -, -, j, c, a, b, v, hj, rfl, rfl, ha, rfl, hb, hv, rfl⟩
  · exact absurd ⟨c1, c2, c3⟩ qq
  clear bad
  refine J.if_neB (tgt := 31) X dX0_odds_24 (by decide) (fun _ => ?_) (fun q9 => absurd q9 (fun z => z c3))
  refine J.lconst (v := 0) X dX0_odds_31 (by decide) ?_
  refine J.lstore4 X dX0_odds_32 ?_
  refine J.aload0 X dX0_odds_34 ?_
  refine J.getf X dX0_odds_35 fl_X0_25_X0 (so) rfl ?_
  refine J.aload0 X dX0_odds_38 ?_
  refine J.getf X dX0_odds_39 fl_X0_18_X0 (so) rfl ?_
  refine J.callVa X dX0_odds_42 lk_X0_222_X3 ce_X3_of (sa_of F S.z3 (Or.inl rfl) S1 (rm.mono (by omega))) (by decide) rfl (ob) rfl (fun r0 h2 e _ => ?_)
  obtain ⟨rfl, ⟨e', D', S2⟩, S3, f2, e2⟩ := e
  have ff : Fr gS hE h2 := f2.mono (fun z hz => hz.elim (fun q => Or.inr (Or.inr (Or.inr (Or.inl q)))) Or.inl)
  have X2 := S.up (x' := g.x) ff ⟨ta, D, S3⟩ S2.z (S.z4.fr f2 (by unfold CT; omega)) hB
  have F2 : Fr n5 hE h2 := ff.mono (fun z hz => by have : gS z := hz; unfold gS CT at this; show z ≠ 5; omega)
  refine J.pop X dX0_odds_45 ?_
  refine J.iconst (v := nI 0) X dX0_odds_46 (by decide) ?_
  refine J.istore6 X dX0_odds_47 ?_
  suffices loop : ∀ (r n : Nat) (h : JIH), n + r = g.x.2.1 0 + 1 → GX K h o p g tz tzi → SA K 3 h p.b3 g.x.1 (askC g.x.2.1) e' D' → hres h ≤ hres hE + 92 + 13 * n → Fr n5 hE h → J M h 49 [some (.ref o), some (.int (nI j)), some (.int (nI a)), some (.int (nI b)), some (.long (lN (aoddsL v a n))), none, some (.int (nI n))] [] from loop (g.x.2.1 0 + 1) 0 h2 (by omega) X2 S2 (by omega) F2
  clear X2 S2 F2 S3 ff f2 e2
  intro r
  induction r with
  | zero =>
    intro n h hn S S2 ee FF
    have hn6 : n = g.x.2.1 0 + 1 := by omega
    subst hn6
    have so := S.o.1
    obtain ⟨ta, D, S1⟩ := S.cc
    have co := S1.o.1
    have hle := aoddsL_le v a (g.x.2.1 0 + 1)
    refine J.iload6 X dX0_odds_49 ?_
    refine J.aload0 X dX0_odds_51 ?_
    refine J.getf X dX0_odds_52 fl_X0_18_X0 (so) rfl ?_
    refine J.getf X dX0_odds_55 fl_X0_73_X1 (co) rfl ?_
    refine J.icmp_gtN (tgt := 91) X dX0_odds_58 (by decide) (by omega) (by omega) (fun _ => ?_) (fun q9 => absurd q9 (by omega))
    refine J.lload4 X dX0_odds_91 ?_
    refine J.aload0 X dX0_odds_93 ?_
    refine J.getf X dX0_odds_94 fl_X0_18_X0 (so) rfl ?_
    refine J.getf X dX0_odds_97 fl_X0_73_X1 (co) rfl ?_
    refine J.iconst (v := nI 1) X dX0_odds_100 (by decide) ?_
    refine J.iaddN X dX0_odds_101 ?_
    refine J.i2l X dX0_odds_102 ?_
    refine J.topl (nI_l (show g.x.2.1 0 + 1 < 2147483648 by omega)) ?_
    refine J.iload3 X dX0_odds_103 ?_
    refine J.callSl X dX0_odds_104 lk_X0_284 ce_X0_lowest (x_lowest F (a := aoddsL v a (g.x.2.1 0 + 1)) (b := g.x.2.1 0 + 1) (by omega) (by omega) (by omega) hb) (by decide) rfl (fun r0 h3 e _ => ?_)
    obtain ⟨rfl, rfl⟩ := e
    refine J.lreturn X dX0_odds_107 (jRl.of ?_)
    exact ⟨rfl, S, by omega, FF⟩
  | succ r ih =>
    intro n h hn S S2 ee FF
    have so := S.o.1
    obtain ⟨ta, D, S1⟩ := S.cc
    have co := S1.o.1
    have h1v := hv n (by omega)
    refine J.iload6 X dX0_odds_49 ?_
    refine J.aload0 X dX0_odds_51 ?_
    refine J.getf X dX0_odds_52 fl_X0_18_X0 (so) rfl ?_
    refine J.getf X dX0_odds_55 fl_X0_73_X1 (co) rfl ?_
    refine J.icmp_gtN (tgt := 91) X dX0_odds_58 (by decide) (by omega) (by omega) (fun q9 => absurd q9 (by omega)) (fun _ => ?_)
    refine J.aload0 X dX0_odds_61 ?_
    refine J.iload1 X dX0_odds_62 ?_
    refine J.aload0 X dX0_odds_63 ?_
    refine J.getf X dX0_odds_64 fl_X0_18_X0 (so) rfl ?_
    refine J.getf X dX0_odds_67 fl_X0_73_X1 (co) rfl ?_
    refine J.iload6 X dX0_odds_70 ?_
    refine J.callVi X dX0_odds_72 lk_X0_276_X0 ce_X0_hadBy (x_hadBy F S S2 hp ⟨h01, h09⟩ (by omega) hj h1v.1 (by unfold RM at rm ⊢; omega)) (by decide) rfl (so) rfl (fun r0 h3 e _ => ?_)
    obtain ⟨rfl, S3, S4, e4, f4⟩ := e
    have hvn := h1v.2
    have eu : aoddsL v a (n + 1) = aoddsL v a n + if a ≤ v n then 1 else 0 := rfl
    refine J.iload2 X dX0_odds_75 ?_
    refine J.icmp_ltN (tgt := 85) X dX0_odds_76 (by decide) (by omega) (by omega) (fun c1 => ?_) (fun c1 => ?_)
    · skip
      rw [if_neg (by omega), Nat.add_zero] at eu
      refine J.iinc6N (d := 1) X dX0_odds_85 (by decide) ?_
      refine J.goto (tgt := 49) X dX0_odds_88 (by decide) ?_
      have := ih (n + 1) h3 (by omega) S3 S4 (by omega) (FF.tr f4)
      rw [eu] at this
      exact this
    · skip
      rw [if_pos (by omega)] at eu
      refine J.lload4 X dX0_odds_79 ?_
      refine J.lconst (v := 1) X dX0_odds_81 (by decide) ?_
      refine J.ladd X dX0_odds_82 ?_
      refine J.topl (lN_1 _) ?_
      rw [← eu]
      refine J.lstore4 X dX0_odds_83 ?_
      refine J.iinc6N (d := 1) X dX0_odds_85 (by decide) ?_
      refine J.goto (tgt := 49) X dX0_odds_88 (by decide) ?_
      exact ih (n + 1) h3 (by omega) S3 S4 (by omega) (FF.tr f4)
