/-! Cache: puts -/
def CGw (b : Nat) (hE : JIH) (tz0 p : Nat) (s0 : AS) (e : Nat) (h : JIH) (tz : Nat) (s : AS) : Prop := Fr (CT b) hE h ∧ hres h + tz0 + Phi s * cst p ≤ hres hE + (Phi s0 * cst p + e * cst p) + tz
theorem CG.w {b : Nat} {hE : JIH} {tz0 p : Nat} {s0 : AS} {e : Nat} {h : JIH} {tz : Nat} {s : AS} (g : CG b hE tz0 p s0 e h tz s) : CGw b hE tz0 p s0 e h tz s := ⟨g.1.1, g.2⟩
theorem CGw.pre {b : Nat} {hE : JIH} {tz0 p : Nat} {e : Nat} {h h' : JIH} {tz tz' : Nat} {s s' : AS} (f : CFw b hE tz0 (cst p) h tz) (g : CGw b h tz p s e h' tz' s') : CGw b hE tz0 p s (e + 1) h' tz' s' := by
  refine ⟨f.1.tr g.1, ?_⟩
  have h1 := g.2
  have h2 := f.2
  rw [Nat.add_mul, Nat.one_mul]
  omega
theorem mmax_sub {b x : Nat} (hb : b < 1000) (hx : x < 1000) : (if nI 0 < nI b - nI x then nI b - nI x else nI 0) = nI (b - x) := by
  by_cases c : x ≤ b
  · have e : nI b - nI x = nI (b - x) := by
      rw [show nI b = nI (b - x + x) by rw [Nat.sub_add_cancel c], Int32.sub_eq_add_neg, nI_addneg]
    rw [e]
    by_cases c2 : b = x
    · rw [c2, Nat.sub_self]
      simp
    · rw [if_pos]
      rw [Int32.lt_iff_toInt_lt, nI_toInt (by decide), nI_toInt (by omega)]
      omega
  · have h1 := nI_sub_neg (i := b) (j := x) (n := 999) (by omega) (by omega) (by decide)
    rw [if_neg, show b - x = 0 by omega]
    intro z
    have h2 := h1.1
    rw [Int32.lt_iff_toInt_lt] at h2 z
    have e0 : (nI 0).toInt = 0 := by decide
    have e1 : (0 : Int32).toInt = 0 := by decide
    omega
def anew (s : AS) (k : Nat) (v : Int32) (x co ch : Nat) : AS := (s.1, va_up s.2.1 k v, fun j => va_up (s.2.2 j) k (if j = 0 then x else if j = 1 then co else if j = 3 then ch else 0))
def ahow (s : AS) (k : Nat) : Nat := if k ∈ s.1 1 ∨ k ∈ s.1 2 then 2 else if awhere s k = 0 then 0 else 1
def aputC (s : AS) (C : Nat → Nat) (k x co : Nat) : Nat → Nat := if k ∈ s.1 1 ∨ k ∈ s.1 2 then C else va_up (va_up C 8 (C 8 + co)) 1 (if awhere s k = 3 then C 1 - x else if awhere s k = 4 then min (C 0) (C 1 + x) else C 1)
def aputS (s : AS) (C : Nat → Nat) (k : Nat) (v : Int32) (x co : Nat) : AS := if k ∈ s.1 1 ∨ k ∈ s.1 2 then ahit (achg s k v x co) (C 2) k else ain (anew (adrop s k) k v x co (if awhere s k = 0 then C 3 else 0)) (if awhere s k = 0 then 1 else 2) k
theorem anew_th (s : AS) (k : Nat) (v : Int32) (x co ch : Nat) : thO (anew s k v x co ch) k = [.int v, .int (nI x), .int (nI co), .int (nI 0), .int (nI ch), .int (nI 0)] := by
  unfold thO anew
  simp only [va_up_self]
  rfl
theorem anew_ne (s : AS) (k : Nat) (v : Int32) (x co ch : Nat) (i : Nat) {j : Nat} (h : j ≠ k) : (anew s k v x co ch).2.2 i j = s.2.2 i j := va_up_ne _ _ h
theorem anew_ok {s : AS} {k : Nat} {v : Int32} {x co ch i : Nat} (hk : k < 400) (hx : 1 ≤ x ∧ x ≤ 9) (hco : co ≤ 99) (hch : ch ≤ 9) : aok (anew s k v x co ch) i k := by
  unfold aok anew
  simp only [va_up_self]
  exact ⟨hk, hx, hco, Nat.zero_le _, hch, Nat.zero_le _, fun _ => rfl⟩
/-- a thing that was not there comes, as it is made -/
theorem k_comes {K : JK} {b : Nat} {h : JIH} {c : Nat} {y : CY} {s : AS} {C : Nat → Nat} {G : List Nat} {ta : Nat → Nat} {D : List Nat} {tz k : Nat} {v : Int32} {x co ch : Nat} (S : CC K b h c y s C G ta D tz) (hkq : ∀ i, aq i → k ∉ s.1 i) : CC K b (hpush h (b + 5) (jO 7 (thO (anew s k v x co ch) k))) c y (anew s k v x co ch) C G (va_up ta k (hnew h)) (k :: D) tz ∧ CF b h tz 14 (hpush h (b + 5) (jO 7 (thO (anew s k v x co ch) k))) tz := by
  have hb := S.bb
  have f1 := Fr.push (fun x => x = 6) h (b + 5) (jO 7 (thO (anew s k v x co ch) k))
  have e1 : hres (hpush h (b + 5) (jO 7 (thO (anew s k v x co ch) k))) = hres h + 14 := hres_push h (b + 5) (jO 7 (thO (anew s k v x co ch) k))
  have cn := hc.new h (b + 5) (jO 7 (thO (anew s k v x co ch) k))
  have hlt : ∀ j ∈ D, ta j ≠ hnew h := fun j hj => Nat.ne_of_lt (S.th hj).lt
  have S1 := S.fr f1 (b6 hb) (by decide)
  obtain ⟨P, eP, R, A, hG⟩ := S1
  have ew : ∀ i, aq i → wsum (anew s k v x co ch) i = wsum s i := fun i hi => sum_congr (fun m hm => anew_ne _ _ _ _ _ _ _ (fun e => hkq i hi (e ▸ hm)))
  have R2 := R.nt hkq (s' := anew s k v x co ch) rfl (fun j hj => va_up_ne _ _ hj) (fun i j hj => anew_ne _ _ _ _ _ _ _ hj) cn hlt
  replace R2 := R2.congrW (w' := wS (anew s k v x co ch)) (fun i hi => by unfold wS; rw [ew i hi])
  have eb : bS (anew s k v x co ch) = bS s := by unfold bS; rw [ew 1 aq1, ew 2 aq2]
  rw [← eb] at R2
  exact ⟨⟨P, eP, R2, A.att hkq (fun i m hm => anew_ne s k v x co ch i hm), hG⟩, fr_6 f1, by omega⟩
theorem k_puts {K : JK} {l : Launch} {hE : JIH} {b c : Nat} {y : CY} {s : AS} {C : Nat → Nat} {G : List Nat} {ta : Nat → Nat} {D : List Nat} {tz : Nat}  (F : JF K) (S : CC K b hE c y s C G ta D tz) (hC0 : C 0 < 900) (hC1 : C 1 < 900) (hC2 : C 2 < 1000) (hC3 : C 3 ≤ 9) {k a x co p fu : Nat} {v : Int32} {s' : AS} {gs : List Nat} (g : IsKey hE a k) (hx : 1 ≤ x ∧ x ≤ 9) (hco : co ≤ 99) (hp : NP (aputS s C k v x co) p) (hT : atrim (aputC s C k x co 0) (aputC s C k x co 1) fu (aputS s C k v x co) s' gs) (rm : RM hE tz (Phi (aputS s C k v x co) * cst p + 8 * cst p)) :
    Ct K l yX1_puts wX1_puts 11 [.ref c, .ref a, .int v, .int (nI x), .int (nI co)] hE (jRi (fun r h' => r = nI (ahow s k) ∧ ∃ ta' D' tz', CC K b h' c y s' (va_up (aputC s C k x co) 9 (aputC s C k x co 9 + gs.length)) ((gs ++ G).take 20) ta' D' tz' ∧ CGw b hE tz p (aputS s C k v x co) 5 h' tz' s' ∧ NP s' p)) jNo := by
  have hb := S.bb
  have A := S.aw
  have c110 : 110 ≤ cst p := by unfold cst; omega
  have hk4 := g.1
  refine st_X1_puts (ls := [some (.ref c), some (.ref a), some (.int v), some (.int (nI x)), some (.int (nI co)), none, none, none, none]) F rfl (body := fun M X => ?_)
  -- the end
  have fin : ∀ (h : JIH) (ta1 : Nat → Nat) (D1 : List Nat) (tz1 : Nat) (x5 x7 x8 : Option Value), CC K b h c y (aputS s C k v x co) (aputC s C k x co) G ta1 D1 tz1 → CFw b hE tz 28 h tz1 → aputC s C k x co 0 < 1000 → aputC s C k x co 1 < 1000 → J M h 195 [some (.ref c), some (.ref a), some (.int v), some (.int (nI x)), some (.int (nI co)), x5, some (.int (nI (ahow s k))), x7, x8] [] := by
    intro h ta1 D1 tz1 x5 x7 x8 S1 F1 h0 h1
    refine J.aload0 X dX1_puts_195 ?_
    refine J.callVv X dX1_puts_196 lk_X1_212_X1 ce_X1_trims (k_trims F S1 h0 h1 hp hT (F1.rm rm (by omega))) (by decide) rfl (S1.o.1) rfl (fun h5 e _ => ?_)
    obtain ⟨ta', D', tz', S5, cg5, np5⟩ := e
    refine J.iload6 X dX1_puts_199 ?_
    refine J.zreturn X dX1_puts_201 (rfl) (jRi.of ?_)
    exact ⟨rfl, ta', D', tz', S5, CGw.pre (F1.mono (by omega)) cg5.w, np5⟩
  refine J.aload0 X dX1_puts_0 ?_
  refine J.aload1 X dX1_puts_1 ?_
  refine J.callVa X dX1_puts_2 lk_X1_200_X1 ce_X1_thing (k_thing F S g) (by decide) rfl (S.o.1) rfl (fun r h' e _ => ?_)
  obtain ⟨rfl, rfl⟩ := e
  by_cases hq : k ∈ s.1 1 ∨ k ∈ s.1 2
  · rw [if_pos hq]
    have eS : aputS s C k v x co = ahit (achg s k v x co) (C 2) k := by unfold aputS; rw [if_pos hq]
    have eC : aputC s C k x co = C := by unfold aputC; rw [if_pos hq]
    have eh : ahow s k = 2 := by unfold ahow; rw [if_pos hq]
    rw [eS, eC, eh] at fin
    refine J.astore5 X dX1_puts_5 ?_
    refine J.aload5 X dX1_puts_7 ?_
    refine J.ifnullR (tgt := 16) X dX1_puts_9 (by decide) ?_
    refine J.iconst (v := nI 2) X dX1_puts_12 (by decide) ?_
    refine J.goto (tgt := 17) X dX1_puts_13 (by decide) ?_
    refine J.istore6 X dX1_puts_17 ?_
    refine J.aload5 X dX1_puts_19 ?_
    refine J.ifnullR (tgt := 38) X dX1_puts_21 (by decide) ?_
    refine J.aload0 X dX1_puts_24 ?_
    refine J.aload1 X dX1_puts_25 ?_
    refine J.aload5 X dX1_puts_26 ?_
    refine J.iload2 X dX1_puts_28 ?_
    refine J.iload3 X dX1_puts_29 ?_
    refine J.iload4 X dX1_puts_30 ?_
    refine J.callVv X dX1_puts_32 lk_X1_202_X1 ce_X1_changes (k_changes F S hC2 g rfl hq hx hco (rm.mono (by omega))) (by decide) rfl (S.o.1) rfl (fun h1 e _ => ?_)
    obtain ⟨tz1, S1, F1⟩ := e
    refine J.goto (tgt := 195) X dX1_puts_35 (by decide) ?_
    exact fin _ _ _ _ _ _ _ S1 (F1.mono (by omega)) (by omega) (by omega)
  · rw [if_neg hq]
    have hn1 : k ∉ s.1 1 := fun z => hq (Or.inl z)
    have hn2 : k ∉ s.1 2 := fun z => hq (Or.inr z)
    refine J.astore5 X dX1_puts_5 ?_
    refine J.aload5 X dX1_puts_7 ?_
    refine J.ifnullN (a := 0) (tgt := 16) X dX1_puts_9 (by decide) ?_
    refine J.iconst (v := nI 0) X dX1_puts_16 (by decide) ?_
    refine J.istore6 X dX1_puts_17 ?_
    refine J.aload5 X dX1_puts_19 ?_
    refine J.ifnullN (a := 0) (tgt := 38) X dX1_puts_21 (by decide) ?_
    refine J.aload0 X dX1_puts_38 ?_
    refine J.dup X dX1_puts_39 ?_
    refine J.getf X dX1_puts_40 fl_X1_61_X1 (S.o.1) rfl ?_
    refine J.iload4 X dX1_puts_43 ?_
    refine J.iaddN X dX1_puts_45 ?_
    refine J.putf X dX1_puts_46 (pl_X1_61_X1 _) (S.o.1) (Nat.le_of_ble_eq_true rfl) (rfl) (rfl) ?_
    have S1 := S.wo (va_up C 8 (C 8 + co))
    have F1 := S.woF (va_up C 8 (C 8 + co))
    have g1 := g.fr F1.1.1 (CT.n1 hb)
    show J M (hset hE c (jO 1 (caO (va_up C 8 (C 8 + co)) y (bS s)))) _ _ _
    generalize hset hE c (jO 1 (caO (va_up C 8 (C 8 + co)) y (bS s))) = h1 at S1 F1 g1
    refine J.aload0 X dX1_puts_49 ?_
    refine J.getf X dX1_puts_50 fl_X1_36_X1 (S1.o.1) rfl ?_
    refine J.aload1 X dX1_puts_53 ?_
    refine J.callVa X dX1_puts_54 lk_X1_177_X2 ce_X2_loses (k_loses F S1 aq3 g1) (by decide) rfl ((S1.q aq3).1) rfl (fun r h2 e _ => ?_)
    rcases e with ⟨h3, rfl, rfl⟩ | ⟨h3, rfl, S2, F2⟩
    · skip
      refine J.ifnullN (a := 0) (tgt := 64) X dX1_puts_57 (by decide) ?_
      refine J.iconst (v := nI 0) X dX1_puts_64 (by decide) ?_
      refine J.istore7 X dX1_puts_65 ?_
      refine J.aload0 X dX1_puts_67 ?_
      refine J.getf X dX1_puts_68 fl_X1_39_X1 (S1.o.1) rfl ?_
      refine J.aload1 X dX1_puts_71 ?_
      refine J.callVa X dX1_puts_72 lk_X1_177_X2 ce_X2_loses (k_loses F S1 aq4 g1) (by decide) rfl ((S1.q aq4).1) rfl (fun r h2 e _ => ?_)
      rcases e with ⟨h4, rfl, rfl⟩ | ⟨h4, rfl, S2, F2⟩
      · -- it was nowhere
        have hw0 : awhere s k = 0 := by unfold awhere; rw [if_neg hn1, if_neg hn2, if_neg h3, if_neg h4]
        have hkq : ∀ i, aq i → k ∉ s.1 i := by
          intro i hi z
          have := awhere_of A hi z
          have := hi.1
          omega
        have eS : aputS s C k v x co = ain (anew s k v x co (C 3)) 1 k := by unfold aputS adrop; rw [if_neg hq, if_pos hw0, if_pos hw0, if_pos hw0]
        have eC : aputC s C k x co = va_up C 8 (C 8 + co) := by
          unfold aputC
          rw [if_neg hq, if_neg (by omega), if_neg (by omega)]
          exact va_upid (va_up C 8 (C 8 + co)) 1
        have eh : ahow s k = 0 := by unfold ahow; rw [if_neg hq, if_pos hw0]
        rw [eS, eC, eh] at fin
        have r8 := S1.rm8 (F1.rm rm (c2 := 100) (by omega))
        refine J.ifnullN (a := 0) (tgt := 82) X dX1_puts_75 (by decide) ?_
        refine J.iconst (v := nI 0) X dX1_puts_82 (by decide) ?_
        refine J.istore8 X dX1_puts_83 ?_
        refine J.iload7 X dX1_puts_85 ?_
        refine J.if_eqN (tgt := 104) X dX1_puts_87 (by decide) (by omega) (fun _ => ?_) (fun q9 => absurd q9 (by omega))
        refine J.iload8 X dX1_puts_104 ?_
        refine J.if_eqN (tgt := 126) X dX1_puts_106 (by decide) (by omega) (fun _ => ?_) (fun q9 => absurd q9 (by omega))
        refine J.iload7 X dX1_puts_126 ?_
        refine J.if_neN (tgt := 136) X dX1_puts_128 (by decide) (by omega) (fun q9 => absurd q9 (by omega)) (fun _ => ?_)
        refine J.iload8 X dX1_puts_131 ?_
        refine J.if_eqN (tgt := 140) X dX1_puts_133 (by decide) (by omega) (fun _ => ?_) (fun q9 => absurd q9 (by omega))
        refine J.iconst (v := nI 0) X dX1_puts_140 (by decide) ?_
        refine J.istore6 X dX1_puts_141 ?_
        refine J.iload6 X dX1_puts_143 ?_
        refine J.iconst (v := nI 1) X dX1_puts_145 (by decide) ?_
        refine J.icmp_neN (tgt := 172) X dX1_puts_146 (by decide) (by omega) (by omega) (fun _ => ?_) (fun q9 => absurd q9 (by omega))
        refine J.aload0 X dX1_puts_172 ?_
        refine J.getf X dX1_puts_173 fl_X1_29_X1 (S1.o.1) rfl ?_
        refine J.aload1 X dX1_puts_176 ?_
        refine J.new (ci := 7) (b + 5) X dX1_puts_177 jcl_7 cl_X1_111 rfl ((by show _ + (8 + 6) ≤ _; omega)) ?_
        have o1 := S1.o.push (b + 5) (jO 7 [.int 0, .int 0, .int 0, .int 0, .int 0, .int 0])
        refine J.dup X dX1_puts_180 ?_
        refine J.iload2 X dX1_puts_181 ?_
        refine J.iload3 X dX1_puts_182 ?_
        refine J.iload4 X dX1_puts_183 ?_
        refine J.aload0 X dX1_puts_185 ?_
        refine J.getf X dX1_puts_186 fl_X1_21_X1 (o1.1) rfl ?_
        refine J.callI X dX1_puts_189 lk_X1_209 ce_X7_init_2 (th_init F (hget_push_new _ _ _) v (nI x) (nI co) (nI (C 3))) (by decide) rfl (fun h2 e _ => ?_)
        subst e
        rw [hset_push_new]
        obtain ⟨S2, F2⟩ := k_comes (v := v) (x := x) (co := co) (ch := C 3) S1 hkq
        have e0 := anew_th s k v x co (C 3)
        rw [e0] at S2 F2
        show J M (hpush h1 (b + 5) (jO 7 [.int v, .int (nI x), .int (nI co), .int (nI 0), .int (nI (C 3)), .int (nI 0)])) _ _ _
        have g2 := g1.fr F2.1.1 (CT.n1 hb)
        have hta : va_up ta k (hnew h1) k = hnew h1 := va_up_self _ _ _
        generalize hpush h1 (b + 5) (jO 7 [.int v, .int (nI x), .int (nI co), .int (nI 0), .int (nI (C 3)), .int (nI 0)]) = h2 at S2 F2 g2
        refine J.callVv X dX1_puts_192 lk_X1_119_X2 ce_X2_adds (k_adds F S2 aq1 g2 List.mem_cons_self hta hkq (anew_ok hk4 hx hco hC3) ((F1.tr F2).rm rm (by omega))) (by decide) rfl ((S2.q aq1).1) rfl (fun h3 e _ => ?_)
        obtain ⟨tz3, S3, F3⟩ := e
        have e8 : va_up C 8 (C 8 + co) 0 = C 0 := rfl
        have e9 : va_up C 8 (C 8 + co) 1 = C 1 := rfl
        exact fin _ _ _ _ _ _ _ S3 (((F1.tr F2).tr F3).mono (by omega)).w (by omega) (by omega)
      · -- it was among the second ghosts
        have hw0 : awhere s k = 4 := by unfold awhere; rw [if_neg hn1, if_neg hn2, if_neg h3, if_pos h4]
        have hkq := fun j hj => out_not A aq4 h4 (j := j) hj
        have eS : aputS s C k v x co = ain (anew (aout s 4 k) k v x co 0) 2 k := by unfold aputS adrop; rw [if_neg hq, if_neg (by omega), if_neg (by omega), if_neg (by omega), hw0]
        have eC : aputC s C k x co = va_up (va_up C 8 (C 8 + co)) 1 (min (C 0) (C 1 + x)) := by
          unfold aputC
          rw [if_neg hq, if_neg (by omega), if_pos hw0]
        have eh : ahow s k = 1 := by unfold ahow; rw [if_neg hq, if_neg (by omega)]
        rw [eS, eC, eh] at fin
        have g2 := g1.fr F2.1.1 (CT.n1 hb)
        refine J.ifnullR (tgt := 82) X dX1_puts_75 (by decide) ?_
        refine J.iconst (v := nI 1) X dX1_puts_78 (by decide) ?_
        refine J.goto (tgt := 83) X dX1_puts_79 (by decide) ?_
        refine J.istore8 X dX1_puts_83 ?_
        refine J.iload7 X dX1_puts_85 ?_
        refine J.if_eqN (tgt := 104) X dX1_puts_87 (by decide) (by omega) (fun _ => ?_) (fun q9 => absurd q9 (by omega))
        refine J.iload8 X dX1_puts_104 ?_
        refine J.if_eqN (tgt := 126) X dX1_puts_106 (by decide) (by omega) (fun q9 => absurd q9 (by omega)) (fun _ => ?_)
        refine J.aload0 X dX1_puts_109 ?_
        refine J.aload0 X dX1_puts_110 ?_
        refine J.getf X dX1_puts_111 fl_X1_9_X1 (S2.o.1) rfl ?_
        refine J.aload0 X dX1_puts_114 ?_
        refine J.getf X dX1_puts_115 fl_X1_15_X1 (S2.o.1) rfl ?_
        refine J.iload3 X dX1_puts_118 ?_
        refine J.iaddN X dX1_puts_119 ?_
        refine J.mmin X dX1_puts_120 q2050 (by decide) ?_
        refine J.topi (y := nI (min (C 0) (C 1 + x))) (mmin_nI (by show C 0 < _; omega) (by show C 1 + x < _; omega)) ?_
        refine J.putf X dX1_puts_123 (pl_X1_15_X1 _) (S2.o.1) (Nat.le_of_ble_eq_true rfl) (rfl) (rfl) ?_
        have S3 := S2.wo (va_up (va_up C 8 (C 8 + co)) 1 (min (C 0) (C 1 + x)))
        have F3 := (F1.tr F2).tr (S2.woF (va_up (va_up C 8 (C 8 + co)) 1 (min (C 0) (C 1 + x))))
        have g3 := g.fr F3.1.1 (CT.n1 hb)
        show J M (hset h2 c (jO 1 (caO (va_up (va_up C 8 (C 8 + co)) 1 (min (C 0) (C 1 + x))) y (bS (aout s 4 k))))) _ _ _
        generalize hset h2 c (jO 1 (caO (va_up (va_up C 8 (C 8 + co)) 1 (min (C 0) (C 1 + x))) y (bS (aout s 4 k)))) = h3 at S3 F3 g3
        have r8 := S3.rm8 (F3.rm rm (c2 := 100) (by omega))
        refine J.iload7 X dX1_puts_126 ?_
        refine J.if_neN (tgt := 136) X dX1_puts_128 (by decide) (by omega) (fun q9 => absurd q9 (by omega)) (fun _ => ?_)
        refine J.iload8 X dX1_puts_131 ?_
        refine J.if_eqN (tgt := 140) X dX1_puts_133 (by decide) (by omega) (fun q9 => absurd q9 (by omega)) (fun _ => ?_)
        refine J.iconst (v := nI 1) X dX1_puts_136 (by decide) ?_
        refine J.goto (tgt := 141) X dX1_puts_137 (by decide) ?_
        refine J.istore6 X dX1_puts_141 ?_
        refine J.iload6 X dX1_puts_143 ?_
        refine J.iconst (v := nI 1) X dX1_puts_145 (by decide) ?_
        refine J.icmp_neN (tgt := 172) X dX1_puts_146 (by decide) (by omega) (by omega) (fun q9 => absurd q9 (by omega)) (fun _ => ?_)
        refine J.aload0 X dX1_puts_149 ?_
        refine J.getf X dX1_puts_150 fl_X1_33_X1 (S3.o.1) rfl ?_
        refine J.aload1 X dX1_puts_153 ?_
        refine J.new (ci := 7) (b + 5) X dX1_puts_154 jcl_7 cl_X1_111 rfl ((by show _ + (8 + 6) ≤ _; omega)) ?_
        have o1 := S3.o.push (b + 5) (jO 7 [.int 0, .int 0, .int 0, .int 0, .int 0, .int 0])
        refine J.dup X dX1_puts_157 ?_
        refine J.iload2 X dX1_puts_158 ?_
        refine J.iload3 X dX1_puts_159 ?_
        refine J.iload4 X dX1_puts_160 ?_
        refine J.iconst (v := nI 0) X dX1_puts_162 (by decide) ?_
        refine J.callI X dX1_puts_163 lk_X1_209 ce_X7_init_2 (th_init F (hget_push_new _ _ _) v (nI x) (nI co) (nI 0)) (by decide) rfl (fun h4 e _ => ?_)
        subst e
        rw [hset_push_new]
        obtain ⟨S4, F4⟩ := k_comes (v := v) (x := x) (co := co) (ch := 0) S3 hkq
        have e0 := anew_th (aout s 4 k) k v x co 0
        rw [e0] at S4 F4
        show J M (hpush h3 (b + 5) (jO 7 [.int v, .int (nI x), .int (nI co), .int (nI 0), .int (nI 0), .int (nI 0)])) _ _ _
        have g4 := g3.fr F4.1.1 (CT.n1 hb)
        have hta : va_up ta k (hnew h3) k = hnew h3 := va_up_self _ _ _
        generalize hpush h3 (b + 5) (jO 7 [.int v, .int (nI x), .int (nI co), .int (nI 0), .int (nI 0), .int (nI 0)]) = h4 at S4 F4 g4
        refine J.callVv X dX1_puts_166 lk_X1_119_X2 ce_X2_adds (k_adds F S4 aq2 g4 List.mem_cons_self hta hkq (anew_ok hk4 hx hco (Nat.zero_le _)) ((F3.tr F4).rm rm (by omega))) (by decide) rfl ((S4.q aq2).1) rfl (fun h5 e _ => ?_)
        obtain ⟨tz5, S5, F5⟩ := e
        refine J.goto (tgt := 195) X dX1_puts_169 (by decide) ?_
        have e8 : va_up (va_up C 8 (C 8 + co)) 1 (min (C 0) (C 1 + x)) 0 = C 0 := rfl
        have e9 : va_up (va_up C 8 (C 8 + co)) 1 (min (C 0) (C 1 + x)) 1 = min (C 0) (C 1 + x) := rfl
        exact fin _ _ _ _ _ _ _ S5 (((F3.tr F4).tr F5).mono (by omega)).w (by omega) (by omega)
    · -- it was among the first ghosts
      have hw0 : awhere s k = 3 := by unfold awhere; rw [if_neg hn1, if_neg hn2, if_pos h3]
      have hkq := fun j hj => out_not A aq3 h3 (j := j) hj
      have eS : aputS s C k v x co = ain (anew (aout s 3 k) k v x co 0) 2 k := by unfold aputS adrop; rw [if_neg hq, if_neg (by omega), if_neg (by omega), if_neg (by omega), hw0]
      have eC : aputC s C k x co = va_up (va_up C 8 (C 8 + co)) 1 (C 1 - x) := by
        unfold aputC
        rw [if_neg hq, if_pos hw0]
      have eh : ahow s k = 1 := by unfold ahow; rw [if_neg hq, if_neg (by omega)]
      rw [eS, eC, eh] at fin
      have g2 := g1.fr F2.1.1 (CT.n1 hb)
      refine J.ifnullR (tgt := 64) X dX1_puts_57 (by decide) ?_
      refine J.iconst (v := nI 1) X dX1_puts_60 (by decide) ?_
      refine J.goto (tgt := 65) X dX1_puts_61 (by decide) ?_
      refine J.istore7 X dX1_puts_65 ?_
      refine J.aload0 X dX1_puts_67 ?_
      refine J.getf X dX1_puts_68 fl_X1_39_X1 (S2.o.1) rfl ?_
      refine J.aload1 X dX1_puts_71 ?_
      refine J.callVa X dX1_puts_72 lk_X1_177_X2 ce_X2_loses (k_loses F S2 aq4 g2) (by decide) rfl ((S2.q aq4).1) rfl (fun r h3 e _ => ?_)
      rcases e with ⟨h4, rfl, rfl⟩ | ⟨h4, -⟩
      · skip
        refine J.ifnullN (a := 0) (tgt := 82) X dX1_puts_75 (by decide) ?_
        refine J.iconst (v := nI 0) X dX1_puts_82 (by decide) ?_
        refine J.istore8 X dX1_puts_83 ?_
        refine J.iload7 X dX1_puts_85 ?_
        refine J.if_eqN (tgt := 104) X dX1_puts_87 (by decide) (by omega) (fun q9 => absurd q9 (by omega)) (fun _ => ?_)
        refine J.aload0 X dX1_puts_90 ?_
        refine J.iconst (v := nI 0) X dX1_puts_91 (by decide) ?_
        refine J.aload0 X dX1_puts_92 ?_
        refine J.getf X dX1_puts_93 fl_X1_15_X1 (S2.o.1) rfl ?_
        refine J.iload3 X dX1_puts_96 ?_
        refine J.isub X dX1_puts_97 ?_
        refine J.mmax X dX1_puts_98 q2062 (by decide) ?_
        refine J.topi (y := nI (C 1 - x)) (mmax_sub (show C 1 < 1000 by omega) (by omega)) ?_
        refine J.putf X dX1_puts_101 (pl_X1_15_X1 _) (S2.o.1) (Nat.le_of_ble_eq_true rfl) (rfl) (rfl) ?_
        have S3 := S2.wo (va_up (va_up C 8 (C 8 + co)) 1 (C 1 - x))
        have F3 := (F1.tr F2).tr (S2.woF (va_up (va_up C 8 (C 8 + co)) 1 (C 1 - x)))
        have g3 := g.fr F3.1.1 (CT.n1 hb)
        show J M (hset h2 c (jO 1 (caO (va_up (va_up C 8 (C 8 + co)) 1 (C 1 - x)) y (bS (aout s 3 k))))) _ _ _
        generalize hset h2 c (jO 1 (caO (va_up (va_up C 8 (C 8 + co)) 1 (C 1 - x)) y (bS (aout s 3 k)))) = h3 at S3 F3 g3
        have r8 := S3.rm8 (F3.rm rm (c2 := 100) (by omega))
        refine J.iload8 X dX1_puts_104 ?_
        refine J.if_eqN (tgt := 126) X dX1_puts_106 (by decide) (by omega) (fun _ => ?_) (fun q9 => absurd q9 (by omega))
        refine J.iload7 X dX1_puts_126 ?_
        refine J.if_neN (tgt := 136) X dX1_puts_128 (by decide) (by omega) (fun _ => ?_) (fun q9 => absurd q9 (by omega))
        refine J.iconst (v := nI 1) X dX1_puts_136 (by decide) ?_
        refine J.goto (tgt := 141) X dX1_puts_137 (by decide) ?_
        refine J.istore6 X dX1_puts_141 ?_
        refine J.iload6 X dX1_puts_143 ?_
        refine J.iconst (v := nI 1) X dX1_puts_145 (by decide) ?_
        refine J.icmp_neN (tgt := 172) X dX1_puts_146 (by decide) (by omega) (by omega) (fun q9 => absurd q9 (by omega)) (fun _ => ?_)
        refine J.aload0 X dX1_puts_149 ?_
        refine J.getf X dX1_puts_150 fl_X1_33_X1 (S3.o.1) rfl ?_
        refine J.aload1 X dX1_puts_153 ?_
        refine J.new (ci := 7) (b + 5) X dX1_puts_154 jcl_7 cl_X1_111 rfl ((by show _ + (8 + 6) ≤ _; omega)) ?_
        have o1 := S3.o.push (b + 5) (jO 7 [.int 0, .int 0, .int 0, .int 0, .int 0, .int 0])
        refine J.dup X dX1_puts_157 ?_
        refine J.iload2 X dX1_puts_158 ?_
        refine J.iload3 X dX1_puts_159 ?_
        refine J.iload4 X dX1_puts_160 ?_
        refine J.iconst (v := nI 0) X dX1_puts_162 (by decide) ?_
        refine J.callI X dX1_puts_163 lk_X1_209 ce_X7_init_2 (th_init F (hget_push_new _ _ _) v (nI x) (nI co) (nI 0)) (by decide) rfl (fun h4 e _ => ?_)
        subst e
        rw [hset_push_new]
        obtain ⟨S4, F4⟩ := k_comes (v := v) (x := x) (co := co) (ch := 0) S3 hkq
        have e0 := anew_th (aout s 3 k) k v x co 0
        rw [e0] at S4 F4
        show J M (hpush h3 (b + 5) (jO 7 [.int v, .int (nI x), .int (nI co), .int (nI 0), .int (nI 0), .int (nI 0)])) _ _ _
        have g4 := g3.fr F4.1.1 (CT.n1 hb)
        have hta : va_up ta k (hnew h3) k = hnew h3 := va_up_self _ _ _
        generalize hpush h3 (b + 5) (jO 7 [.int v, .int (nI x), .int (nI co), .int (nI 0), .int (nI 0), .int (nI 0)]) = h4 at S4 F4 g4
        refine J.callVv X dX1_puts_166 lk_X1_119_X2 ce_X2_adds (k_adds F S4 aq2 g4 List.mem_cons_self hta hkq (anew_ok hk4 hx hco (Nat.zero_le _)) ((F3.tr F4).rm rm (by omega))) (by decide) rfl ((S4.q aq2).1) rfl (fun h5 e _ => ?_)
        obtain ⟨tz5, S5, F5⟩ := e
        refine J.goto (tgt := 195) X dX1_puts_169 (by decide) ?_
        have e8 : va_up (va_up C 8 (C 8 + co)) 1 (C 1 - x) 0 = C 0 := rfl
        have e9 : va_up (va_up C 8 (C 8 + co)) 1 (C 1 - x) 1 = C 1 - x := rfl
        exact fin _ _ _ _ _ _ _ S5 (((F3.tr F4).tr F5).mono (by omega)).w (by omega) (by omega)
      · exact absurd h4 (hkq 4 aq4)
