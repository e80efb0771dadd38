/-! SegmentedCache: keys, put, get, drop -/
theorem x_in {K : JK} {l : Launch} {h : JIH} (F : JF K) (v a b : Int32) : Ct K l yX0_in wX0_in 0 [.int v, .int a, .int b] h (jRi (fun r h' => r = jB (a ≤ v ∧ v ≤ b) ∧ h = h')) jNo := by
  refine st_X0_in (ls := [some (.int v), some (.int a), some (.int b)]) F rfl (body := fun M X => ?_)
  refine J.iload0 X dX0_in_0 ?_
  refine J.iload1 X dX0_in_1 ?_
  refine J.icmp_lt (tgt := 14) X dX0_in_2 (by decide) (fun c1 => ?_) (fun c1 => ?_)
  · skip
    refine J.iconst (v := nI 0) X dX0_in_14 (by decide) ?_
    refine J.zreturn X dX0_in_15 (rfl) (jRi.of ?_)
    exact ⟨jB_0 (fun q => absurd q.1 (Int32.not_le.mpr c1)), rfl⟩
  · skip
    refine J.iload0 X dX0_in_5 ?_
    refine J.iload2 X dX0_in_6 ?_
    refine J.icmp_gt (tgt := 14) X dX0_in_7 (by decide) (fun c2 => ?_) (fun c2 => ?_)
    · skip
      refine J.iconst (v := nI 0) X dX0_in_14 (by decide) ?_
      refine J.zreturn X dX0_in_15 (rfl) (jRi.of ?_)
      exact ⟨jB_0 (fun q => absurd q.2 (Int32.not_le.mpr c2)), rfl⟩
    · skip
      refine J.iconst (v := nI 1) X dX0_in_10 (by decide) ?_
      refine J.goto (tgt := 15) X dX0_in_11 (by decide) ?_
      refine J.zreturn X dX0_in_15 (rfl) (jRi.of ?_)
      exact ⟨jB_1 ⟨Int32.not_lt.mp c1, Int32.not_lt.mp c2⟩, rfl⟩
theorem x_isKey {K : JK} {l : Launch} {h : JIH} (F : JF K) (s n : Int32) : Ct K l yX0_isKey wX0_isKey 1 [.int s, .int n] h (jRi (fun r h' => r = jB (tkey s n) ∧ h = h')) jNo := by
  refine st_X0_isKey (ls := [some (.int s), some (.int n)]) F rfl (body := fun M X => ?_)
  refine J.iload0 X dX0_isKey_0 ?_
  refine J.iconst (v := nI 0) X dX0_isKey_1 (by decide) ?_
  refine J.iconst (v := nI 3) X dX0_isKey_2 (by decide) ?_
  refine J.callSi X dX0_isKey_3 lk_X0_5 ce_X0_in (x_in F s 0 3) (by decide) rfl (fun r h' e _ => ?_)
  obtain ⟨rfl, rfl⟩ := e
  refine J.if_eqB (tgt := 23) X dX0_isKey_6 (by decide) (fun c1 => ?_) (fun c1 => ?_)
  · skip
    refine J.iconst (v := nI 0) X dX0_isKey_23 (by decide) ?_
    refine J.zreturn X dX0_isKey_24 (rfl) (jRi.of ?_)
    exact ⟨jB_0 (fun q => c1 q.1), rfl⟩
  · skip
    refine J.iload1 X dX0_isKey_9 ?_
    refine J.iconst (v := nI 0) X dX0_isKey_10 (by decide) ?_
    refine J.bipush (v := nI 99) X dX0_isKey_11 (by decide) ?_
    refine J.callSi X dX0_isKey_13 lk_X0_5 ce_X0_in (x_in F n 0 99) (by decide) rfl (fun r h' e _ => ?_)
    obtain ⟨rfl, rfl⟩ := e
    refine J.if_eqB (tgt := 23) X dX0_isKey_16 (by decide) (fun c2 => ?_) (fun c2 => ?_)
    · skip
      refine J.iconst (v := nI 0) X dX0_isKey_23 (by decide) ?_
      refine J.zreturn X dX0_isKey_24 (rfl) (jRi.of ?_)
      exact ⟨jB_0 (fun q => c2 q.2), rfl⟩
    · skip
      refine J.iconst (v := nI 1) X dX0_isKey_19 (by decide) ?_
      refine J.goto (tgt := 24) X dX0_isKey_20 (by decide) ?_
      refine J.zreturn X dX0_isKey_24 (rfl) (jRi.of ?_)
      exact ⟨jB_1 ⟨c1, c2⟩, rfl⟩
abbrev n5 (z : Nat) : Prop := z ≠ 5
theorem GX.cc {K : JK} {h : JIH} {o : Nat} {p : GP} {g : GA} {tz tzi : Nat} (S : GX K h o p g tz tzi) : ∃ ta D, CC K 16 h p.c p.y g.x.1 g.x.2.1 g.x.2.2 ta D tz := S.2.1
theorem CT.n5 {b z : Nat} (h : CT b z) (hb : b = 16 ∨ b = 32) : n5 z := by unfold CT at h; show z ≠ 5; omega
/-- a new key -/
theorem GX.key {K : JK} {h : JIH} {o : Nat} {p : GP} {g : GA} {tz tzi : Nat} (S : GX K h o p g tz tzi) {a b k : Nat} (ha : a ≤ 3) (hb : b ≤ 99) (hk : k = 100 * a + b) : GX K (hpush h 1 (kyO a b)) o p g tz tzi ∧ IsKey (hpush h 1 (kyO a b)) (hnew h) k ∧ Fr n5 h (hpush h 1 (kyO a b)) ∧ hres (hpush h 1 (kyO a b)) = hres h + 10 := by
  subst hk
  exact ⟨S.push 1 _, IsKey.of ha hb (hc.new h 1 _), Fr.push _ _ _ _, hres_push h 1 _⟩
abbrev gok (x c : Int32) : Prop := ((1 : Int32) ≤ x ∧ x ≤ 9) ∧ ((0 : Int32) ≤ c ∧ c ≤ 99)
def gput (fu : Nat) (g : GA) (s m v x c : Int32) (r : Int32) (g' : GA) : Prop :=
  (¬ tkey s m ∧ r = -1 ∧ g' = g) ∨ (tkey s m ∧ ¬ gok x c ∧ r = -2 ∧ g' = g) ∨ (tkey s m ∧ gok x c ∧ nI (g.x.2.1 0) < x ∧ r = -4 ∧ g' = g) ∨
  (tkey s m ∧ gok x c ∧ ∃ a b k xx cc s' gs, a ≤ 3 ∧ b ≤ 99 ∧ s = nI a ∧ m = nI b ∧ k = 100 * a + b ∧ x = nI xx ∧ c = nI cc ∧ (1 ≤ xx ∧ xx ≤ 9) ∧ cc ≤ 99 ∧ xx ≤ g.x.2.1 0 ∧ r = nI (ahow g.x.1 k) ∧ atrim (aputC g.x.1 g.x.2.1 k xx cc 0) (aputC g.x.1 g.x.2.1 k xx cc 1) fu (aputS g.x.1 g.x.2.1 k v xx cc) s' gs ∧ g' = g.wx (s', va_up (aputC g.x.1 g.x.2.1 k xx cc) 9 (aputC g.x.1 g.x.2.1 k xx cc 9 + gs.length), (gs ++ g.x.2.2).take 20))
theorem x_put {K : JK} {l : Launch} {hE : JIH} {o : Nat} {p : GP} {g : GA} {tz tzi : Nat}  (F : JF K) (S : GX K hE o p g tz tzi) {PL : List Nat} (hp : TP g.x.1 PL) {fu : Nat} {s m v x c r : Int32} {g' : GA} (hf : gput fu g s m v x c r g') (rm : RM hE tz ((Phi g.x.1 + 20) * cst PL.length + 10)) :
    Ct K l yX0_put wX0_put 12 [.ref o, .int s, .int m, .int v, .int x, .int c] hE (jRi (fun r0 h' => r0 = r ∧ (∃ tz', GX K h' o p g' tz' tzi ∧ hres h' + tz + Phi g'.x.1 * cst PL.length ≤ hres hE + ((Phi g.x.1 + 17) * cst PL.length + 10) + tz') ∧ Fr n5 hE h')) jNo := by
  have same : ∀ {r0 : Int32}, r0 = r → g' = g → r0 = r ∧ (∃ tz', GX K hE o p g' tz' tzi ∧ hres hE + tz + Phi g'.x.1 * cst PL.length ≤ hres hE + ((Phi g.x.1 + 17) * cst PL.length + 10) + tz') ∧ Fr n5 hE hE := fun e1 e2 => by
    subst e2
    refine ⟨e1, ⟨tz, S, ?_⟩, Fr.rf _ _⟩
    have := Nat.mul_le_mul_right (cst PL.length) (Nat.le_add_right (Phi g'.x.1) 17)
    omega
  refine st_X0_put (ls := [some (.ref o), some (.int s), some (.int m), some (.int v), some (.int x), some (.int c)]) F rfl (body := fun M X => ?_)
  have so := S.o.1
  obtain ⟨ta, D, S1⟩ := S.cc
  have co := S1.o.1
  refine J.iload1 X dX0_put_0 ?_
  refine J.iload2 X dX0_put_1 ?_
  refine J.callSi X dX0_put_2 lk_X0_129 ce_X0_isKey (x_isKey F s m) (by decide) rfl (fun r0 h' e _ => ?_)
  obtain ⟨rfl, rfl⟩ := e
  rcases hf with ⟨k1, e1, e2⟩ | hf
  · skip
    refine J.if_neB (tgt := 10) X dX0_put_5 (by decide) (fun q9 => absurd q9 (k1)) (fun _ => ?_)
    refine J.iconst (v := -1) X dX0_put_8 (by decide) ?_
    refine J.zreturn X dX0_put_9 (rfl) (jRi.of ?_)
    exact same e1.symm e2
  have k1 : tkey s m := by rcases hf with h | h | h <;> exact h.1
  refine J.if_neB (tgt := 10) X dX0_put_5 (by decide) (fun _ => ?_) (fun q9 => absurd q9 (fun z => z k1))
  refine J.iload4 X dX0_put_10 ?_
  refine J.iconst (v := nI 1) X dX0_put_12 (by decide) ?_
  refine J.bipush (v := nI 9) X dX0_put_13 (by decide) ?_
  refine J.callSi X dX0_put_15 lk_X0_5 ce_X0_in (x_in F x 1 9) (by decide) rfl (fun r0 h' e _ => ?_)
  obtain ⟨rfl, rfl⟩ := e
  have bad : ¬ gok x c → J M hE 32 [some (.ref o), some (.int s), some (.int m), some (.int v), some (.int x), some (.int c)] [] := fun kb => by
    rcases hf with ⟨-, -, e1, e2⟩ | ⟨-, q, -⟩ | ⟨-, q, -⟩
    · skip
      refine J.bipush (v := -2) X dX0_put_32 (by decide) ?_
      refine J.zreturn X dX0_put_34 (rfl) (jRi.of ?_)
      exact same e1.symm e2
    · exact absurd q kb
    · exact absurd q kb
  refine J.if_eqB (tgt := 32) X dX0_put_18 (by decide) (fun c1 => ?_) (fun c1 => ?_)
  · skip
    exact bad (fun z => c1 z.1)
  · skip
    refine J.iload5 X dX0_put_21 ?_
    refine J.iconst (v := nI 0) X dX0_put_23 (by decide) ?_
    refine J.bipush (v := nI 99) X dX0_put_24 (by decide) ?_
    refine J.callSi X dX0_put_26 lk_X0_5 ce_X0_in (x_in F c 0 99) (by decide) rfl (fun r0 h' e _ => ?_)
    obtain ⟨rfl, rfl⟩ := e
    refine J.if_neB (tgt := 35) X dX0_put_29 (by decide) (fun c2 => ?_) (fun c2 => ?_)
    · skip
      have ok : gok x c := ⟨c1, c2⟩
      rcases hf with ⟨-, q, -⟩ | ⟨-, -, k3, e1, e2⟩ | ⟨-, -, a, b, k, xx, cc, s', gs, ha, hb, rfl, rfl, hk, rfl, rfl, hx, hcc, hc0, rfl, hT, rfl⟩
      · exact absurd ok q
      · skip
        refine J.iload4 X dX0_put_35 ?_
        refine J.aload0 X dX0_put_37 ?_
        refine J.getf X dX0_put_38 fl_X0_18_X0 (so) rfl ?_
        refine J.getf X dX0_put_41 fl_X0_73_X1 (co) rfl ?_
        refine J.icmp_le (tgt := 52) X dX0_put_44 (by decide) (fun q => absurd k3 (Int32.not_lt.mpr q)) (fun _ => ?_)
        refine J.bipush (v := -4) X dX0_put_47 (by decide) ?_
        refine J.goto (tgt := 73) X dX0_put_49 (by decide) ?_
        refine J.zreturn X dX0_put_73 (rfl) (jRi.of ?_)
        exact same e1.symm e2
      · have hB := S.bc
        have h09 := hB.1.2
        refine J.iload4 X dX0_put_35 ?_
        refine J.aload0 X dX0_put_37 ?_
        refine J.getf X dX0_put_38 fl_X0_18_X0 (so) rfl ?_
        refine J.getf X dX0_put_41 fl_X0_73_X1 (co) rfl ?_
        refine J.icmp_leN (tgt := 52) X dX0_put_44 (by decide) (by omega) (by omega) (fun _ => ?_) (fun q9 => absurd q9 (by omega))
        refine J.aload0 X dX0_put_52 ?_
        refine J.getf X dX0_put_53 fl_X0_18_X0 (so) rfl ?_
        have r8 := S1.rm8 rm
        refine J.new (ci := 8) (1) X dX0_put_56 jcl_8 cl_X0_43 rfl ((by show _ + (8 + 2) ≤ _; omega)) ?_
        refine J.dup X dX0_put_59 ?_
        refine J.iload1 X dX0_put_60 ?_
        refine J.iload2 X dX0_put_61 ?_
        refine J.callI X dX0_put_62 lk_X0_133 ce_X8_init (ky_init F (hget_push_new _ _ _) (nI a) (nI b)) (by decide) rfl (fun h1 e _ => ?_)
        subst e
        rw [hset_push_new]
        obtain ⟨S2, gk, f1, e1⟩ := S.key ha hb hk
        show J M (hpush hE 1 (kyO a b)) _ _ _
        generalize hpush hE 1 (kyO a b) = h1 at S2 f1 e1 gk
        clear S1 co
        obtain ⟨ta, D, S1⟩ := S2.cc
        have co := S1.o.1
        have hA := S1.aw
        have k4 := gk.1
        have hph := Phi.put (s := g.x.1) (C := g.x.2.1) (k := k) (v := v) hA hx hcc hB.2.2.2
        have h6 := Nat.mul_le_mul_right (cst PL.length) hph
        have h7 : (Phi g.x.1 + 12) * cst PL.length + 8 * cst PL.length = (Phi g.x.1 + 20) * cst PL.length := by rw [← Nat.add_mul]
        have h8 : (Phi g.x.1 + 12) * cst PL.length + 5 * cst PL.length = (Phi g.x.1 + 17) * cst PL.length := by rw [← Nat.add_mul]
        have rm2 : RM h1 tz (Phi (aputS g.x.1 g.x.2.1 k v xx cc) * cst PL.length + 8 * cst PL.length) := by
          unfold RM at rm ⊢
          omega
        refine J.iload3 X dX0_put_65 ?_
        refine J.iload4 X dX0_put_66 ?_
        refine J.iload5 X dX0_put_68 ?_
        refine J.callVi X dX0_put_70 lk_X0_136_X1 ce_X1_puts (k_puts (v := v) F S1 (by omega) (by have := hB.2.1; omega) (by have := hB.2.2.1; omega) hB.2.2.2 gk hx hcc ((hp.put g.x.2.1 k v xx cc).np (hA.put k4 hx hcc hB.2.2.2)) hT rm2) (by decide) rfl (co) rfl (fun r0 h2 e _ => ?_)
        obtain ⟨rfl, ta', D', tz', S3, cg, -⟩ := e
        refine J.zreturn X dX0_put_73 (rfl) (jRi.of ?_)
        refine ⟨rfl, ⟨tz', S2.up0 cg.1 (fun z hz => Or.inl hz) ⟨ta', D', S3⟩ ((hB.put _ _ _ _).up (by decide) _), ?_⟩, f1.tr (cg.1.mono (fun z hz => CT.n5 hz (Or.inl rfl)))⟩
        have := cg.2
        show hres h2 + tz + Phi s' * cst PL.length ≤ _
        omega
    · skip
      exact bad (fun z => c2 z.2)
