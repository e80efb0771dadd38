/-! SegmentedCache: divisor, lowest, need -/
theorem lN_div {a d : Nat} (ha : a < 2 ^ 31) (h0 : 0 < d) (hd : d < 2 ^ 31) : lN a / lN d = lN (a / d) := by
  apply Int64.toInt_inj.mp
  rw [lg_ldiv_nonneg (by rw [lN_toInt ha]; omega) (by rw [lN_toInt hd]; omega), lN_toInt ha, lN_toInt hd, lN_toInt (Nat.lt_of_le_of_lt (Nat.div_le_self a d) ha)]
  first | rfl | exact (Int.natCast_ediv _ _).symm
theorem lN_rem {a d : Nat} (ha : a < 2 ^ 31) (h0 : 0 < d) (hd : d < 2 ^ 31) : lN a - lN a / lN d * lN d = lN (a % d) := by
  rw [lN_div ha h0 hd, lN_mul, lN_sub (Nat.div_mul_le_self a d)]
  exact congrArg lN (by have := Nat.div_add_mod' a d; omega)
theorem lN_z {a : Nat} (ha : a < 2 ^ 31) : lN a = 0 ↔ a = 0 := lN_eq (b := 0) ha (by decide)
theorem cmp_z (x : Int64) : lg_cmp x 0 = 0 ↔ x = 0 := by
  unfold lg_cmp
  by_cases c : x > 0
  · rw [if_pos c]
    refine ⟨fun z => absurd z (by decide), fun z => ?_⟩
    subst z
    exact absurd c (by decide)
  · rw [if_neg c]
    by_cases c2 : x = 0
    · rw [if_pos c2]; exact ⟨fun _ => c2, fun _ => rfl⟩
    · rw [if_neg c2]; exact ⟨fun z => absurd z (by decide), fun z => absurd z c2⟩
theorem x_divisor {K : JK} {l : Launch} {hE : JIH} (F : JF K) {a b : Nat} (ha : a < 2 ^ 31) (hb : b < 2 ^ 31) :
    Ct K l yX0_divisor wX0_divisor 0 [.long (lN a), .long (lN b)] hE (jRl (fun r0 h' => r0 = lN (Nat.gcd a b) ∧ hE = h')) jNo := by
  refine st_X0_divisor (ls := [some (.long (lN a)), none, some (.long (lN b)), none, none, none, none, none]) F rfl (body := fun M X => ?_)
  have loop : ∀ (n x y : Nat) (z z7 : Option Value), y < n → x < 2 ^ 31 → y < 2 ^ 31 → Nat.gcd x y = Nat.gcd a b → J M hE 3 [some (.long (lN a)), none, some (.long (lN y)), none, some (.long (lN x)), none, z, z7] [] := by
    intro n
    induction n with
    | zero => intro x y z z7 h; omega
    | succ n ih =>
      intro x y z z7 hn hx hy e
      refine J.lload2 X dX0_divisor_3 ?_
      refine J.lconst (v := 0) X dX0_divisor_4 (by decide) ?_
      refine J.lcmp X dX0_divisor_5 ?_
      refine J.if_eq (tgt := 24) X dX0_divisor_6 (by decide) (fun c1 => ?_) (fun c1 => ?_)
      · skip
        have hy0 : y = 0 := (lN_z hy).mp ((cmp_z _).mp c1)
        refine J.lload4 X dX0_divisor_24 ?_
        refine J.lreturn X dX0_divisor_26 (jRl.of ?_)
        subst hy0
        rw [Nat.gcd_zero_right] at e
        exact ⟨by rw [e], rfl⟩
      · skip
        have hy0 : ¬ lN y = 0 := fun z => c1 ((cmp_z _).mpr z)
        have hy1 : 0 < y := by
          rcases Nat.eq_zero_or_pos y with h | h
          · exact absurd ((lN_z hy).mpr h) hy0
          · exact h
        refine J.lload4 X dX0_divisor_9 ?_
        refine J.lload2 X dX0_divisor_11 ?_
        refine J.lrem X dX0_divisor_12 (hy0) ?_
        refine J.topl (lN_rem hx hy1 hy) ?_
        refine J.lstore6 X dX0_divisor_13 ?_
        refine J.lload2 X dX0_divisor_15 ?_
        refine J.lstore4 X dX0_divisor_16 ?_
        refine J.lload6 X dX0_divisor_18 ?_
        refine J.lstore2 X dX0_divisor_20 ?_
        refine J.goto (tgt := 3) X dX0_divisor_21 (by decide) ?_
        have h1 : x % y < y := Nat.mod_lt _ hy1
        exact ih y (x % y) _ _ (by omega) hy (by omega) (by rw [← e, Nat.gcd_comm x y, Nat.gcd_rec y x, Nat.gcd_comm])
  refine J.lload0 X dX0_divisor_0 ?_
  refine J.lstore4 X dX0_divisor_1 ?_
  exact loop (b + 1) a b _ _ (by omega) ha hb rfl
theorem x_lowest {K : JK} {l : Launch} {hE : JIH} (F : JF K) {a b p : Nat} (ha : a < 2 ^ 31) (hb : b < 2 ^ 31) (hb0 : 0 < b) (hp : p < 2) :
    Ct K l yX0_lowest wX0_lowest 1 [.long (lN a), .long (lN b), .int (nI p)] hE (jRl (fun r0 h' => r0 = lN ((if p = 0 then a else b) / Nat.gcd a b) ∧ hE = h')) jNo := by
  have hg0 : 0 < Nat.gcd a b := Nat.gcd_pos_of_pos_right _ hb0
  have hg1 : Nat.gcd a b < 2 ^ 31 := Nat.lt_of_le_of_lt (Nat.gcd_le_right _ hb0) hb
  have hne : ¬ lN (Nat.gcd a b) = 0 := fun z => by have := (lN_z hg1).mp z; omega
  refine st_X0_lowest (ls := [some (.long (lN a)), none, some (.long (lN b)), none, some (.int (nI p))]) F rfl (body := fun M X => ?_)
  have fin : ∀ v, v < 2 ^ 31 → v = (if p = 0 then a else b) → J M hE 10 [some (.long (lN a)), none, some (.long (lN b)), none, some (.int (nI p))] [.long (lN v)] := fun v hv ev => by
    refine J.lload0 X dX0_lowest_10 ?_
    refine J.lload2 X dX0_lowest_11 ?_
    refine J.callSl X dX0_lowest_12 lk_X0_280 ce_X0_divisor (x_divisor F ha hb) (by decide) rfl (fun r h' e _ => ?_)
    obtain ⟨rfl, rfl⟩ := e
    refine J.ldiv X dX0_lowest_15 (hne) ?_
    refine J.topl (lN_div hv hg0 hg1) ?_
    refine J.lreturn X dX0_lowest_16 (jRl.of ?_)
    exact ⟨by rw [ev], rfl⟩
  refine J.iload4 X dX0_lowest_0 ?_
  refine J.if_neN (tgt := 9) X dX0_lowest_2 (by decide) (by omega) (fun c1 => ?_) (fun c1 => ?_)
  · skip
    refine J.lload2 X dX0_lowest_9 ?_
    exact fin b hb (by rw [if_neg c1])
  · skip
    refine J.lload0 X dX0_lowest_5 ?_
    refine J.goto (tgt := 10) X dX0_lowest_6 (by decide) ?_
    exact fin a ha (by rw [if_pos c1])
/-- the first n that is enough -/
def aneedL (v : Nat → Nat) (x : Nat) : Nat → Nat → Int32
  | 0, _ => -5
  | r + 1, n => if x ≤ v n then nI n else aneedL v x r (n + 1)
def gneed (fu : Nat) (g : GA) (t x r : Int32) : Prop := (¬ (nI 0 ≤ t ∧ t ≤ nI g.cls.length - nI 1) ∧ r = -1) ∨ ((nI 0 ≤ t ∧ t ≤ nI g.cls.length - nI 1) ∧ ¬ (nI 0 ≤ x ∧ x ≤ nI 20) ∧ r = -2) ∨ ((nI 0 ≤ t ∧ t ≤ nI g.cls.length - nI 1) ∧ (nI 0 ≤ x ∧ x ≤ nI 20) ∧ ∃ j c a v, g.cls[j]? = some c ∧ t = nI j ∧ x = nI a ∧ a ≤ 20 ∧ (∀ n, 1 ≤ n → n ≤ 60 → ahadR fu g c n (g.x.2.1 1) (v n) ∧ v n ≤ 1000) ∧ r = aneedL v a 60 1)
theorem x_need {K : JK} {l : Launch} {hE : JIH} {o : Nat} {p : GP} {g : GA} {tz tzi : Nat} (F : JF K) (S : GX K hE o p g tz tzi) {PL : List Nat} (hp : TP g.x.1 PL) {fu : Nat} {t x r : Int32} (hf : gneed fu g t x r) (rm : RM hE tz 900) :
    Ct K l yX0_need wX0_need 12 [.ref o, .int t, .int x] hE (jRi (fun r0 h' => r0 = r ∧ GX K h' o p g tz tzi ∧ hres h' ≤ hres hE + 900 ∧ Fr n5 hE h')) jNo := by
  have so := S.o.1
  obtain ⟨ta, D, S1⟩ := S.cc
  have co := S1.o.1
  have hB := S.bc
  obtain ⟨fs, ob⟩ := S.z3.ob
  refine st_X0_need (ls := [some (.ref o), some (.int t), some (.int x), none]) F rfl (body := fun M X => ?_)
  refine J.aload0 X dX0_need_0 ?_
  refine J.iload1 X dX0_need_1 ?_
  refine J.callVi X dX0_need_2 lk_X0_250_X0 ce_X0_isTrace (x_isTrace F S t) (by decide) rfl (so) rfl (fun r0 h2 e _ => ?_)
  obtain ⟨rfl, rfl⟩ := e
  rcases hf with ⟨q, rfl⟩ | hf
  · skip
    refine J.if_neB (tgt := 10) X dX0_need_5 (by decide) (fun q9 => absurd q9 (q)) (fun _ => ?_)
    refine J.iconst (v := -1) X dX0_need_8 (by decide) ?_
    refine J.zreturn X dX0_need_9 (rfl) (jRi.of ?_)
    exact ⟨rfl, S, by omega, Fr.rf _ _⟩
  have q : nI 0 ≤ t ∧ t ≤ nI g.cls.length - nI 1 := by rcases hf with h | h <;> exact h.1
  refine J.if_neB (tgt := 10) X dX0_need_5 (by decide) (fun _ => ?_) (fun q9 => absurd q9 (fun z => z q))
  refine J.iload2 X dX0_need_10 ?_
  refine J.iconst (v := nI 0) X dX0_need_11 (by decide) ?_
  refine J.bipush (v := nI 20) X dX0_need_12 (by decide) ?_
  refine J.callSi X dX0_need_14 lk_X0_5 ce_X0_in (x_in F x 0 20) (by decide) rfl (fun r0 h2 e _ => ?_)
  obtain ⟨rfl, rfl⟩ := e
  rcases hf with ⟨-, q2, rfl⟩ | ⟨-, q2, j, c, a, v, hj, rfl, rfl, ha, hv, rfl⟩
  · skip
    refine J.if_neB (tgt := 23) X dX0_need_17 (by decide) (fun q9 => absurd q9 (q2)) (fun _ => ?_)
    refine J.bipush (v := -2) X dX0_need_20 (by decide) ?_
    refine J.zreturn X dX0_need_22 (rfl) (jRi.of ?_)
    exact ⟨rfl, S, by omega, Fr.rf _ _⟩
  refine J.if_neB (tgt := 23) X dX0_need_17 (by decide) (fun _ => ?_) (fun q9 => absurd q9 (fun z => z q2))
  refine J.aload0 X dX0_need_23 ?_
  refine J.getf X dX0_need_24 fl_X0_25_X0 (so) rfl ?_
  refine J.aload0 X dX0_need_27 ?_
  refine J.getf X dX0_need_28 fl_X0_18_X0 (so) rfl ?_
  refine J.callVa X dX0_need_31 lk_X0_222_X3 ce_X3_of (sa_of F S.z3 (Or.inl rfl) S1 (rm.mono (by omega))) (by decide) rfl (ob) rfl (fun r0 h2 e _ => ?_)
  obtain ⟨rfl, ⟨e', D', S2⟩, S3, f2, e2⟩ := e
  have ff : Fr gS hE h2 := f2.mono (fun z hz => hz.elim (fun q => Or.inr (Or.inr (Or.inr (Or.inl q)))) Or.inl)
  have X2 := S.up (x' := g.x) ff ⟨ta, D, S3⟩ S2.z (S.z4.fr f2 (by unfold CT; omega)) hB
  have F2 : Fr n5 hE h2 := ff.mono (fun z hz => by have : gS z := hz; unfold gS CT at this; show z ≠ 5; omega)
  refine J.pop X dX0_need_34 ?_
  refine J.iconst (v := nI 1) X dX0_need_35 (by decide) ?_
  refine J.istore3 X dX0_need_36 ?_
  suffices loop : ∀ (r n : Nat) (h : JIH), n + r = 61 → 1 ≤ n → GX K h o p g tz tzi → SA K 3 h p.b3 g.x.1 (askC g.x.2.1) e' D' → hres h + 13 ≤ hres hE + 92 + 13 * n → Fr n5 hE h → aneedL v a r n = aneedL v a 60 1 → J M h 37 [some (.ref o), some (.int (nI j)), some (.int (nI a)), some (.int (nI n))] [] from loop 60 1 h2 rfl (Nat.le_refl _) X2 S2 (by omega) F2 rfl
  clear X2 S2 F2 S3 ff f2 e2
  intro r
  induction r with
  | zero =>
    intro n h hn n1 S S2 ee FF er
    have hn6 : n = 61 := by omega
    subst hn6
    refine J.iload3 X dX0_need_37 ?_
    refine J.bipush (v := nI 60) X dX0_need_38 (by decide) ?_
    refine J.icmp_gtN (tgt := 68) X dX0_need_40 (by decide) (by omega) (by omega) (fun _ => ?_) (fun q9 => absurd q9 (by omega))
    refine J.bipush (v := -5) X dX0_need_68 (by decide) ?_
    refine J.zreturn X dX0_need_70 (rfl) (jRi.of ?_)
    exact ⟨er, S, by omega, FF⟩
  | succ r ih =>
    intro n h hn n1 S S2 ee FF er
    have so := S.o.1
    obtain ⟨ta, D, S1⟩ := S.cc
    have co := S1.o.1
    have h1v := hv n n1 (by omega)
    have h09 := hB.1.2
    have h01 := hB.2.1
    refine J.iload3 X dX0_need_37 ?_
    refine J.bipush (v := nI 60) X dX0_need_38 (by decide) ?_
    refine J.icmp_gtN (tgt := 68) X dX0_need_40 (by decide) (by omega) (by omega) (fun q9 => absurd q9 (by omega)) (fun _ => ?_)
    refine J.aload0 X dX0_need_43 ?_
    refine J.iload1 X dX0_need_44 ?_
    refine J.iload3 X dX0_need_45 ?_
    refine J.aload0 X dX0_need_46 ?_
    refine J.getf X dX0_need_47 fl_X0_18_X0 (so) rfl ?_
    refine J.getf X dX0_need_50 fl_X0_77_X1 (co) rfl ?_
    refine J.callVi X dX0_need_53 lk_X0_276_X0 ce_X0_hadBy (x_hadBy F S S2 hp ⟨n1, by omega⟩ (by omega) hj h1v.1 (by unfold RM at rm ⊢; omega)) (by decide) rfl (so) rfl (fun r0 h3 e _ => ?_)
    obtain ⟨rfl, S3, S4, e4, f4⟩ := e
    have hvn := h1v.2
    have eu : aneedL v a (r + 1) n = if a ≤ v n then nI n else aneedL v a r (n + 1) := rfl
    rw [eu] at er
    refine J.iload2 X dX0_need_56 ?_
    refine J.icmp_ltN (tgt := 62) X dX0_need_57 (by decide) (by omega) (by omega) (fun c1 => ?_) (fun c1 => ?_)
    · skip
      rw [if_neg (by omega)] at er
      refine J.iinc3N (d := 1) X dX0_need_62 (by decide) ?_
      refine J.goto (tgt := 37) X dX0_need_65 (by decide) ?_
      exact ih (n + 1) h3 (by omega) (by omega) S3 S4 (by omega) (FF.tr f4) er
    · skip
      rw [if_pos (by omega)] at er
      refine J.iload3 X dX0_need_60 ?_
      refine J.zreturn X dX0_need_61 (rfl) (jRi.of ?_)
      exact ⟨er, S3, by omega, FF.tr f4⟩
