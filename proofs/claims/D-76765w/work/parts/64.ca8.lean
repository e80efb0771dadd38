/-! Cache: takes (the whole of another cache) -/
def sl (q : Nat → List Nat) : Nat → Nat
  | 0 => 0
  | j + 1 => sl q j + (q (j + 1)).length
/-- the target while the other's queues are taken: j of them done -/
def TK (K : JK) (b : Nat) (hE : JIH) (c : Nat) (y : CY) (s : AS) (ta : Nat → Nat) (P : List (Nat × Nat)) (tz : Nat) (b' c' : Nat) (y' : CY) (s' : AS) (C' : Nat → Nat) (P' : List (Nat × Nat)) (ta' : Nat → Nat) (D' : List Nat) (tz' : Nat) (j : Nat) (h : JIH) : Prop :=
  ∃ (ea1 ka1 : Nat → Nat → Nat) (ta1 n1 : Nat → Nat) (mc1 : Nat → Int32), hc h (b + 6) c (jO 1 (caO C' y (bS s'))) ∧ (∀ i, aq i → i ≤ j → hc h (b + 6) (y.1 i) (jO 2 [.ref (y.2.1 i), .int (wS s' i), .ref c])) ∧ (∀ i, aq i → j < i → hc h (b + 6) (y.1 i) (jO 2 [.ref (y.2.1 i), .int (wS s i), .ref c])) ∧
  (∀ i, aq i → i ≤ j → LM K (b + i) h (y.2.1 i) (s'.1 i) (ea1 i) (ka1 i) ta1 (n1 i) (mc1 i)) ∧ (∀ i, aq i → j < i → LM K (b + i) h (y.2.1 i) (s.1 i) (ea1 i) (ka1 i) ta (n1 i) (mc1 i)) ∧
  (∀ i k, aq i → i ≤ j → k ∈ s'.1 i → hc h (b + 5) (ta1 k) (jO 7 (thO s' k))) ∧ (∀ i k i' k', aq i → i ≤ j → aq i' → i' ≤ j → k ∈ s'.1 i → k' ∈ s'.1 i' → ta1 k = ta1 k' → k = k') ∧
  DQ K (b + 7) h y.2.2 P ∧ (∀ i j, aq i → aq j → y.1 i = y.1 j → i = j) ∧ CR K b' h c' y' s' C' P' (wS s') (bS s') ta' D' tz' ∧ Fr (fun x => CT b x ∨ CT b' x) hE h ∧ hres h + tz ≤ hres hE + 23 * j + 28 * sl s'.1 j + tzs n1
theorem TK.step {K : JK} {b : Nat} {hE : JIH} {c : Nat} {y : CY} {s : AS} {ta : Nat → Nat} {P : List (Nat × Nat)} {tz b' c' : Nat} {y' : CY} {s' : AS} {C' : Nat → Nat} {P' : List (Nat × Nat)} {ta' : Nat → Nat} {D' : List Nat} {tz' j : Nat} {h : JIH} {l : Launch} (F : JF K) (T : TK K b hE c y s ta P tz b' c' y' s' C' P' ta' D' tz' j h) (hb : b = 16 ∧ b' = 32 ∨ b = 32 ∧ b' = 16) (A : AW s') (hj : aq (j + 1)) (hr : hres h + 28 * (s'.1 (j + 1)).length + 20000 ≤ jRL) :
    Ct K l yX2_takes wX2_takes 7 [.ref (y.1 (j + 1)), .ref (y'.1 (j + 1))] h (jRv (fun h' => TK K b hE c y s ta P tz b' c' y' s' C' P' ta' D' tz' (j + 1) h')) jNo := by
  obtain ⟨ea1, ka1, ta1, n1, mc1, t1, t2, t3, t4, t5, t6, t7, t8, t9, t10, t11, t12⟩ := T
  obtain ⟨ea, ka, n, mc, S, etz⟩ := t10
  have hj4 := hj.2
  refine (q_takes F hb hj (fun k hk => (A.2.2 _ k hj hk).2.2.2.2.2.1) (t5 _ hj (Nat.lt_succ_self _)) (S.2.2.1 _ hj) (t3 _ hj (Nat.lt_succ_self _)) (S.2.1 _ hj) (fun k hk => S.2.2.2.1 k (S.2.2.2.2.2.1 _ k hj hk)) hr).weaken (fun r h' z => ?_) (fun _ _ _ z => z)
  obtain ⟨er, z⟩ := z
  refine ⟨er, ?_⟩
  obtain ⟨ea2, ka2, ta2, n2, mc2, z1, z2, z3, z4, z5, z6, z7, z8⟩ := z
  have hold : ∀ i k, aq i → i ≤ j → k ∈ s'.1 i → k ∉ s'.1 (j + 1) := fun i k hi hij hk hk' => by
    have := A.1 i (j + 1) k hi hj hk hk'
    omega
  have hta : ∀ i k, aq i → i ≤ j → k ∈ s'.1 i → (if k ∈ s'.1 (j + 1) then ta2 k else ta1 k) = ta1 k := fun i k hi hij hk => if_neg (hold i k hi hij hk)
  have htn : ∀ k ∈ s'.1 (j + 1), (if k ∈ s'.1 (j + 1) then ta2 k else ta1 k) = ta2 k := fun k hk => if_pos hk
  refine ⟨va_up ea1 (j + 1) ea2, va_up ka1 (j + 1) ka2, fun k => if k ∈ s'.1 (j + 1) then ta2 k else ta1 k, va_up n1 (j + 1) n2, va_up mc1 (j + 1) mc2, z7 _ _ t1 ((t3 _ hj (Nat.lt_succ_self _)).apE t1 (jO_ne (by decide))), fun i hi hij => ?_, fun i hi hij => ?_, fun i hi hij => ?_, fun i hi hij => ?_, fun i k hi hij hk => ?_, fun i k i' k' hi hij hi' hij' hk hk' e => ?_, ?_, t9, ?_, ?_, ?_⟩
  · by_cases e : i = j + 1
    · subst e; exact z5
    · exact z7 _ _ (t2 i hi (by omega)) (fun z => e (t9 _ _ hj hi z).symm)
  · exact z7 _ _ (t3 i hi (by omega)) (fun z => by have := t9 _ _ hj hi z; omega)
  · by_cases e : i = j + 1
    · subst e
      rw [va_up_self, va_up_self, va_up_self, va_up_self]
      exact z1.congr (fun k hk => ⟨rfl, htn k hk⟩)
    · rw [va_up_ne _ _ e, va_up_ne _ _ e, va_up_ne _ _ e, va_up_ne _ _ e]
      have := hi.1
      exact ((t4 i hi (by omega)).fr z6 (by omega) (by omega)).congr (fun k hk => ⟨rfl, hta i k hi (by omega) hk⟩)
  · have e : i ≠ j + 1 := by omega
    have := hi.2
    rw [va_up_ne _ _ e, va_up_ne _ _ e, va_up_ne _ _ e, va_up_ne _ _ e]
    exact (t5 i hi (by omega)).fr z6 (by omega) (by omega)
  · by_cases e : i = j + 1
    · subst e
      show hc h' (b + 5) (if k ∈ s'.1 (j + 1) then ta2 k else ta1 k) _
      rw [htn k hk]
      exact (z3 k hk).1
    · show hc h' (b + 5) (if k ∈ s'.1 (j + 1) then ta2 k else ta1 k) _
      rw [hta i k hi (by omega) hk]
      exact (t6 i k hi (by omega) hk).fr z6 (by omega)
  · replace e : (if k ∈ s'.1 (j + 1) then ta2 k else ta1 k) = (if k' ∈ s'.1 (j + 1) then ta2 k' else ta1 k') := e
    by_cases e1 : i = j + 1 <;> by_cases e2 : i' = j + 1
    · subst e1; subst e2
      rw [htn k hk, htn k' hk'] at e
      exact z4 k hk k' hk' e
    · subst e1
      rw [htn k hk, hta i' k' hi' (by omega) hk'] at e
      have := (z3 k hk).2
      have := (t6 i' k' hi' (by omega) hk').lt
      omega
    · subst e2
      rw [htn k' hk', hta i k hi (by omega) hk] at e
      have := (z3 k' hk').2
      have := (t6 i k hi (by omega) hk).lt
      omega
    · rw [hta i k hi (by omega) hk, hta i' k' hi' (by omega) hk'] at e
      exact t7 i k i' k' hi (by omega) hi' (by omega) hk hk' e
  · exact t8.fr z6 (by omega) (by omega)
  · obtain ⟨c1, c2, c3, c4, c5, c6, c7, c8, c9⟩ := S
    refine ⟨ea, ka, n, mc, ⟨c1.fr z6 (by omega), fun i hi => (c2 i hi).fr z6 (by omega), fun i hi => ?_, fun k hk => (c4 k hk).fr z6 (by omega), c5, c6, c7.fr z6 (by omega) (by omega), c8, c9⟩, etz⟩
    by_cases e : i = j + 1
    · subst e; exact z2
    · have := hi.1; have := hi.2; exact (c3 i hi).fr z6 (by omega) (by omega)
  · exact t11.tr (z6.mono (fun x hx => by unfold CT; omega))
  · have := tzs_up n1 hj n2
    have e : sl s'.1 (j + 1) = sl s'.1 j + (s'.1 (j + 1)).length := rfl
    rw [e]
    omega
theorem k_takes {K : JK} {l : Launch} {hE : JIH} {b c : Nat} {y : CY} {s : AS} {C : Nat → Nat} {G : List Nat} {ta : Nat → Nat} {D : List Nat} {tz b' c' : Nat} {y' : CY} {s' : AS} {C' : Nat → Nat} {G' : List Nat} {ta' : Nat → Nat} {D' : List Nat} {tz' : Nat} (F : JF K) (hb : b = 16 ∧ b' = 32 ∨ b = 32 ∧ b' = 16) (S : CC K b hE c y s C G ta D tz) (S' : CC K b' hE c' y' s' C' G' ta' D' tz') (rm : RM hE tz (28 * sl s'.1 4 + 3000)) :
    Ct K l yX1_takes wX1_takes 8 [.ref c, .ref c'] hE (jRv (fun h' => ∃ ta1 D1 tz1, CC K b h' c y s' C' G' ta1 D1 tz1 ∧ CC K b' h' c' y' s' C' G' ta' D' tz' ∧ Fr (fun x => CT b x ∨ CT b' x ∨ x = 7) hE h' ∧ hres h' + tz ≤ hres hE + (28 * sl s'.1 4 + 1100) + tz1)) jNo := by
  have hcc : c ≠ c' := S.o.apT S'.o (by omega)
  refine st_X1_takes (ls := [some (.ref c), some (.ref c'), none, none]) F rfl (body := fun M X => ?_)
  have ho := fun e => (S'.o.ne e hcc).1
  have hs := S.o.1
  refine J.fresh hs ?_
  refine J.aload0 X dX1_takes_0 ?_
  refine J.aload1 X dX1_takes_1 ?_
  refine J.getf X dX1_takes_2 fl_X1_9_X1 (ho _) rfl ?_
  refine J.putfS X dX1_takes_5 (pl_X1_9_X1 _) (hs) (Nat.le_of_ble_eq_true rfl) (rfl) (rfl) ?_
  refine J.aload0 X dX1_takes_8 ?_
  refine J.aload1 X dX1_takes_9 ?_
  refine J.getf X dX1_takes_10 fl_X1_15_X1 (ho _) rfl ?_
  refine J.putfS X dX1_takes_13 (pl_X1_15_X1 _) (hs) (Nat.le_of_ble_eq_true rfl) (rfl) (rfl) ?_
  refine J.aload0 X dX1_takes_16 ?_
  refine J.aload1 X dX1_takes_17 ?_
  refine J.getf X dX1_takes_18 fl_X1_18_X1 (ho _) rfl ?_
  refine J.putfS X dX1_takes_21 (pl_X1_18_X1 _) (hs) (Nat.le_of_ble_eq_true rfl) (rfl) (rfl) ?_
  refine J.at (pc' := 24) rfl ?_
  refine J.aload0 X dX1_takes_24 ?_
  refine J.aload1 X dX1_takes_25 ?_
  refine J.getf X dX1_takes_26 fl_X1_21_X1 (ho _) rfl ?_
  refine J.putfS X dX1_takes_29 (pl_X1_21_X1 _) (hs) (Nat.le_of_ble_eq_true rfl) (rfl) (rfl) ?_
  refine J.aload0 X dX1_takes_32 ?_
  refine J.aload1 X dX1_takes_33 ?_
  refine J.getf X dX1_takes_34 fl_X1_49_X1 (ho _) rfl ?_
  refine J.putfS X dX1_takes_37 (pl_X1_49_X1 _) (hs) (Nat.le_of_ble_eq_true rfl) (rfl) (rfl) ?_
  refine J.aload0 X dX1_takes_40 ?_
  refine J.aload1 X dX1_takes_41 ?_
  refine J.getf X dX1_takes_42 fl_X1_52_X1 (ho _) rfl ?_
  refine J.putfS X dX1_takes_45 (pl_X1_52_X1 _) (hs) (Nat.le_of_ble_eq_true rfl) (rfl) (rfl) ?_
  refine J.at (pc' := 48) rfl ?_
  refine J.aload0 X dX1_takes_48 ?_
  refine J.aload1 X dX1_takes_49 ?_
  refine J.getf X dX1_takes_50 fl_X1_55_X1 (ho _) rfl ?_
  refine J.putfS X dX1_takes_53 (pl_X1_55_X1 _) (hs) (Nat.le_of_ble_eq_true rfl) (rfl) (rfl) ?_
  refine J.aload0 X dX1_takes_56 ?_
  refine J.aload1 X dX1_takes_57 ?_
  refine J.getf X dX1_takes_58 fl_X1_58_X1 (ho _) rfl ?_
  refine J.putfS X dX1_takes_61 (pl_X1_58_X1 _) (hs) (Nat.le_of_ble_eq_true rfl) (rfl) (rfl) ?_
  refine J.aload0 X dX1_takes_64 ?_
  refine J.aload1 X dX1_takes_65 ?_
  refine J.getf X dX1_takes_66 fl_X1_61_X1 (ho _) rfl ?_
  refine J.putfS X dX1_takes_69 (pl_X1_61_X1 _) (hs) (Nat.le_of_ble_eq_true rfl) (rfl) (rfl) ?_
  refine J.at (pc' := 72) rfl ?_
  refine J.aload0 X dX1_takes_72 ?_
  refine J.aload1 X dX1_takes_73 ?_
  refine J.getf X dX1_takes_74 fl_X1_64_X1 (ho _) rfl ?_
  refine J.putfS X dX1_takes_77 (pl_X1_64_X1 _) (hs) (Nat.le_of_ble_eq_true rfl) (rfl) (rfl) ?_
  refine J.aload0 X dX1_takes_80 ?_
  refine J.aload1 X dX1_takes_81 ?_
  refine J.getf X dX1_takes_82 fl_X1_67_X1 (ho _) rfl ?_
  refine J.putfS X dX1_takes_85 (pl_X1_67_X1 _) (hs) (Nat.le_of_ble_eq_true rfl) (rfl) (rfl) ?_
  show J M (hset hE c (jO 1 (caO C' y (bS s')))) _ _ _
  obtain ⟨P, eP, S, A0, hG⟩ := S
  obtain ⟨P', eP', S', A, hG'⟩ := S'
  have hbb := S.bb
  have hbb' := S'.bb
  have g1 := (CR.wo S C' (bS s'))
  have f1 : Fr (fun x => x = b + 6) hE (hset hE c (jO 1 (caO C' y (bS s')))) := Fr.set S.o rfl
  have r1 : hres (hset hE c (jO 1 (caO C' y (bS s')))) = hres hE := by refine hres_setS S.o ?_; rfl
  have T : TK K b hE c y s ta P tz b' c' y' s' C' P' ta' D' tz' 0 (hset hE c (jO 1 (caO C' y (bS s')))) := by
    obtain ⟨ea, ka, n, mc, ⟨c1, c2, c3, c4, c5, c6, c7, c8, c9⟩, etz⟩ := g1
    refine ⟨ea, ka, ta, n, mc, c1, fun i hi z => absurd hi.1 (by omega), fun i hi _ => c2 i hi, fun i hi z => absurd hi.1 (by omega), fun i hi _ => c3 i hi, fun i k hi z => absurd hi.1 (by omega), fun i k i' k' hi z => absurd hi.1 (by omega), c7, c8, S'.fr f1 (fun x p q => by omega) (by omega), f1.mono (fun x hx => by unfold CT; omega), ?_⟩
    have e0 : sl s'.1 0 = 0 := rfl
    rw [r1, e0]
    omega
  have tz1 := S.tz1
  have esl : sl s'.1 4 = (s'.1 1).length + (s'.1 2).length + (s'.1 3).length + (s'.1 4).length := by show 0 + (s'.1 1).length + (s'.1 2).length + (s'.1 3).length + (s'.1 4).length = _; omega
  unfold RM at rm
  rw [esl] at rm
  have hrm : ∀ (j : Nat) (h : JIH), j < 4 → TK K b hE c y s ta P tz b' c' y' s' C' P' ta' D' tz' j h → hres h + 28 * (s'.1 (j + 1)).length + 20000 ≤ jRL := fun j h hj T => by
    obtain ⟨ea1, ka1, ta1, n1, mc1, t1, t2, t3, t4, t5, t6, t7, t8, t9, t10, t11, t12⟩ := T
    have nb : ∀ i, aq i → n1 i ≤ 1024 := fun i hi => by
      by_cases e : i ≤ j
      · exact (t4 i hi e).n1
      · exact (t5 i hi (by omega)).n1
    have b1 := nb 1 aq1
    have b2 := nb 2 aq2
    have b3 := nb 3 aq3
    have b4 := nb 4 aq4
    have : tzs n1 ≤ 12288 := by unfold tzs; omega
    have : sl s'.1 j + (s'.1 (j + 1)).length ≤ (s'.1 1).length + (s'.1 2).length + (s'.1 3).length + (s'.1 4).length := by
      rcases (show j = 0 ∨ j = 1 ∨ j = 2 ∨ j = 3 by omega) with rfl | rfl | rfl | rfl
      · show 0 + (s'.1 1).length ≤ _; omega
      · show 0 + (s'.1 1).length + (s'.1 2).length ≤ _; omega
      · show 0 + (s'.1 1).length + (s'.1 2).length + (s'.1 3).length ≤ _; omega
      · show 0 + (s'.1 1).length + (s'.1 2).length + (s'.1 3).length + (s'.1 4).length ≤ _; omega
    omega
  clear ho hs g1 S S'
  have to := T.choose_spec.choose_spec.choose_spec.choose_spec.choose_spec.1
  have tq := T.choose_spec.choose_spec.choose_spec.choose_spec.choose_spec.2.2.1 (0 + 1) aq1 (Nat.lt_succ_self _)
  have tc := T.choose_spec.choose_spec.choose_spec.choose_spec.choose_spec.2.2.2.2.2.2.2.2.2.1
  have tq' := tc.q aq1
  have hr := hrm 0 _ (by decide) T
  refine J.aload0 X dX1_takes_88 ?_
  refine J.getf X dX1_takes_89 fl_X1_29_X1 (to.1) rfl ?_
  refine J.aload1 X dX1_takes_92 ?_
  refine J.getf X dX1_takes_93 fl_X1_29_X1 (tc.o.1) rfl ?_
  refine J.callVv X dX1_takes_96 lk_X1_70_X2 ce_X2_takes (TK.step F T hb A aq1 hr) (by decide) rfl (tq.1) rfl (fun h0 e _ => ?_)
  have T := e
  clear e to tq tc tq' hr
  have to := T.choose_spec.choose_spec.choose_spec.choose_spec.choose_spec.1
  have tq := T.choose_spec.choose_spec.choose_spec.choose_spec.choose_spec.2.2.1 (1 + 1) aq2 (Nat.lt_succ_self _)
  have tc := T.choose_spec.choose_spec.choose_spec.choose_spec.choose_spec.2.2.2.2.2.2.2.2.2.1
  have tq' := tc.q aq2
  have hr := hrm 1 _ (by decide) T
  refine J.aload0 X dX1_takes_99 ?_
  refine J.getf X dX1_takes_100 fl_X1_33_X1 (to.1) rfl ?_
  refine J.aload1 X dX1_takes_103 ?_
  refine J.getf X dX1_takes_104 fl_X1_33_X1 (tc.o.1) rfl ?_
  refine J.callVv X dX1_takes_107 lk_X1_70_X2 ce_X2_takes (TK.step F T hb A aq2 hr) (by decide) rfl (tq.1) rfl (fun h1 e _ => ?_)
  have T := e
  clear e to tq tc tq' hr
  have to := T.choose_spec.choose_spec.choose_spec.choose_spec.choose_spec.1
  have tq := T.choose_spec.choose_spec.choose_spec.choose_spec.choose_spec.2.2.1 (2 + 1) aq3 (Nat.lt_succ_self _)
  have tc := T.choose_spec.choose_spec.choose_spec.choose_spec.choose_spec.2.2.2.2.2.2.2.2.2.1
  have tq' := tc.q aq3
  have hr := hrm 2 _ (by decide) T
  refine J.aload0 X dX1_takes_110 ?_
  refine J.getf X dX1_takes_111 fl_X1_36_X1 (to.1) rfl ?_
  refine J.aload1 X dX1_takes_114 ?_
  refine J.getf X dX1_takes_115 fl_X1_36_X1 (tc.o.1) rfl ?_
  refine J.callVv X dX1_takes_118 lk_X1_70_X2 ce_X2_takes (TK.step F T hb A aq3 hr) (by decide) rfl (tq.1) rfl (fun h2 e _ => ?_)
  have T := e
  clear e to tq tc tq' hr
  have to := T.choose_spec.choose_spec.choose_spec.choose_spec.choose_spec.1
  have tq := T.choose_spec.choose_spec.choose_spec.choose_spec.choose_spec.2.2.1 (3 + 1) aq4 (Nat.lt_succ_self _)
  have tc := T.choose_spec.choose_spec.choose_spec.choose_spec.choose_spec.2.2.2.2.2.2.2.2.2.1
  have tq' := tc.q aq4
  have hr := hrm 3 _ (by decide) T
  refine J.aload0 X dX1_takes_121 ?_
  refine J.getf X dX1_takes_122 fl_X1_39_X1 (to.1) rfl ?_
  refine J.aload1 X dX1_takes_125 ?_
  refine J.getf X dX1_takes_126 fl_X1_39_X1 (tc.o.1) rfl ?_
  refine J.callVv X dX1_takes_129 lk_X1_70_X2 ce_X2_takes (TK.step F T hb A aq4 hr) (by decide) rfl (tq.1) rfl (fun h3 e _ => ?_)
  have T := e
  clear e to tq tc tq' hr
  obtain ⟨ea1, ka1, ta1, n1, mc1, t1, t2, t3, t4, t5, t6, t7, t8, t9, t10, t11, t12⟩ := T
  have nb : ∀ i, aq i → n1 i ≤ 1024 := fun i hi => (t4 i hi hi.2).n1
  have b1 := nb 1 aq1
  have b2 := nb 2 aq2
  have b3 := nb 3 aq3
  have b4 := nb 4 aq4
  have hn1 : tzs n1 ≤ 12288 := by unfold tzs; omega
  rw [esl] at t12
  have S1 : CR K b h3 c y s' C' P (wS s') (bS s') ta1 (s'.1 1 ++ s'.1 2 ++ s'.1 3 ++ s'.1 4) (tzs n1) := by
    have hm : ∀ k ∈ s'.1 1 ++ s'.1 2 ++ s'.1 3 ++ s'.1 4, ∃ i, aq i ∧ k ∈ s'.1 i := fun k hk => by
      rcases List.mem_append.mp hk with hk | hk
      · rcases List.mem_append.mp hk with hk | hk
        · rcases List.mem_append.mp hk with hk | hk
          · exact ⟨1, aq1, hk⟩
          · exact ⟨2, aq2, hk⟩
        · exact ⟨3, aq3, hk⟩
      · exact ⟨4, aq4, hk⟩
    refine ⟨ea1, ka1, n1, mc1, ⟨t1, fun i hi => t2 i hi hi.2, fun i hi => t4 i hi hi.2, fun k hk => ?_, fun k hk k' hk' e => ?_, fun i k hi hk => ?_, t8, t9, hbb⟩, rfl⟩
    · obtain ⟨i, hi, hk⟩ := hm k hk
      exact t6 i k hi hi.2 hk
    · obtain ⟨i, hi, hk⟩ := hm k hk
      obtain ⟨i', hi', hk'⟩ := hm k' hk'
      exact t7 i k i' k' hi hi.2 hi' hi'.2 hk hk' e
    · rcases (show i = 1 ∨ i = 2 ∨ i = 3 ∨ i = 4 by have := hi.1; have := hi.2; omega) with rfl | rfl | rfl | rfl
      · exact List.mem_append_left _ (List.mem_append_left _ (List.mem_append_left _ hk))
      · exact List.mem_append_left _ (List.mem_append_left _ (List.mem_append_right _ hk))
      · exact List.mem_append_left _ (List.mem_append_right _ hk)
      · exact List.mem_append_right _ hk
  generalize s'.1 1 ++ s'.1 2 ++ s'.1 3 ++ s'.1 4 = D1 at S1
  clear t1 t2 t3 t4 t5 t6 t7 t8 t9 nb b1 b2 b3 b4 hrm f1 r1
  generalize tzs n1 = tz1' at *
  obtain ⟨fd, ob⟩ := S1.gd
  refine J.aload0 X dX1_takes_132 ?_
  refine J.getf X dX1_takes_133 fl_X1_45_X1 (S1.o.1) rfl ?_
  refine J.callVv X dX1_takes_136 lk_X1_74_J4 ce_J4_clear (dq_clear F S1.dq) (by decide) rfl (ob.1) rfl (fun h4 e _ => ?_)
  obtain ⟨d4, f4, r4⟩ := e
  replace S1 := S1.dk f4 d4
  replace t10 := t10.fr f4 (fun x p q => by omega) (by omega)
  clear ob d4
  obtain ⟨fd', ob'⟩ := t10.gd
  refine J.aload1 X dX1_takes_139 ?_
  refine J.getf X dX1_takes_140 fl_X1_45_X1 (t10.o.1) rfl ?_
  refine J.callVa X dX1_takes_143 lk_X1_77_J4 ce_J4_iterator (dq_iter F t10.dq (by omega) (by omega)) (by decide) rfl (ob'.1) rfl (fun r h5 e _ => ?_)
  obtain ⟨it, rfl, J5, f5, r5⟩ := e
  replace S1 := S1.fr f5 (fun x p q => by omega) (by omega)
  replace t10 := t10.fr f5 (fun x p q => by omega) (by omega)
  have ff : Fr (fun x => CT b x ∨ CT b' x ∨ x = 7) hE h5 := ((t11.mono (fun x hx => hx.elim Or.inl (fun z => Or.inr (Or.inl z)))).tr (f4.mono (fun x hx => by unfold CT; omega))).tr (f5.mono (fun x hx => Or.inr (Or.inr hx)))
  have ee : hres h5 + tz ≤ hres hE + 104 + 28 * sl s'.1 4 + tz1' + 44 * ([] : List (Nat × Nat)).length := by
    rw [esl]
    show _ ≤ _ + 44 * 0
    omega
  rw [← esl] at rm
  clear t11 f4 f5 r4 r5 t12 ob'
  have hP' : P'.length ≤ 20 := by rw [← eP', List.length_map] at hG'; exact hG'
  refine J.astore2 X dX1_takes_146 ?_
  suffices loop : ∀ (r p : List (Nat × Nat)) (h : JIH) (x3 : Option Value), P' = p ++ r → CR K b h c y s' C' p (wS s') (bS s') ta1 D1 tz1' → CR K b' h c' y' s' C' P' (wS s') (bS s') ta' D' tz' → DQJ K (b' + 7) h y'.2.2 P' it p.length → Fr (fun x => CT b x ∨ CT b' x ∨ x = 7) hE h → hres h + tz ≤ hres hE + 104 + 28 * sl s'.1 4 + tz1' + 44 * p.length → J M h 147 [some (.ref c), some (.ref c'), some (.ref it), x3] [] from loop P' [] h5 _ rfl S1 t10 J5 ff ee
  clear S1 t10 J5 ff ee
  intro r
  induction r with
  | nil =>
    intro p h x3 hQ S1 S2 I ff ee
    rw [List.append_nil] at hQ
    subst hQ
    obtain ⟨fs, oi⟩ := I.ob
    refine J.aload2 X dX1_takes_147 ?_
    refine J.callFi X dX1_takes_148 lk_X1_81_J38 ce_J38_hasNext (dq_has F I) (by decide) rfl (oi.1) rfl (fun r' h' e _ => ?_)
    obtain ⟨rfl, rfl⟩ := e
    refine J.if_eqB (tgt := 177) X dX1_takes_153 (by decide) (fun _ => ?_) (fun q9 => absurd q9 (fun h => absurd h (Nat.lt_irrefl _)))
    refine J.vreturn X dX1_takes_177 (jRv.of ?_)
    exact ⟨ta1, D1, tz1', ⟨_, eP', S1, A, hG'⟩, ⟨_, eP', S2, A, hG'⟩, ff, by omega⟩
  | cons q r ih =>
    intro p h x3 hQ S1 S2 I ff ee
    have hl : p.length + 1 ≤ P'.length := by rw [hQ, List.length_append, List.length_cons]; omega
    have hg : P'[p.length]? = some q := by rw [hQ, List.getElem?_append_right (Nat.le_refl _), Nat.sub_self]; rfl
    obtain ⟨fs, oi⟩ := I.ob
    refine J.aload2 X dX1_takes_147 ?_
    refine J.callFi X dX1_takes_148 lk_X1_81_J38 ce_J38_hasNext (dq_has F I) (by decide) rfl (oi.1) rfl (fun r' h' e _ => ?_)
    obtain ⟨rfl, rfl⟩ := e
    refine J.if_eqB (tgt := 177) X dX1_takes_153 (by decide) (fun q9 => absurd q9 (fun h => h (by omega))) (fun _ => ?_)
    refine J.aload2 X dX1_takes_156 ?_
    refine J.callFa X dX1_takes_157 lk_X1_87_J38 ce_J38_next (dq_next F I hg (by omega)) (by decide) rfl (oi.1) rfl (fun r' h' e _ => ?_)
    obtain ⟨rfl, I1, f1, r1⟩ := e
    replace S1 := S1.fr f1 (fun x p q => by omega) (by omega)
    replace S2 := S2.fr f1 (fun x p q => by omega) (by omega)
    have kk := S2.dq.key q (by rw [hQ]; exact List.mem_append_right _ List.mem_cons_self)
    obtain ⟨fd, ob⟩ := S1.gd
    refine J.castS X dX1_takes_162 cl_X1_91 jcl_8 (kk.2.1) ?_
    refine J.astore3 X dX1_takes_165 ?_
    refine J.aload0 X dX1_takes_166 ?_
    refine J.getf X dX1_takes_167 fl_X1_45_X1 (S1.o.1) rfl ?_
    refine J.aload3 X dX1_takes_170 ?_
    refine J.callVv X dX1_takes_171 lk_X1_93_J4 ce_J4_addLast (dq_addLast F S1.dq kk (by omega) (by omega) (by omega)) (by decide) rfl (ob.1) rfl (fun h2 e _ => ?_)
    obtain ⟨d2, f2, r2⟩ := e
    replace S1 := S1.dk f2 d2
    replace S2 := S2.fr f2 (fun x p q => by omega) (by omega)
    replace I1 := I1.fr f2 (by omega) (by omega) (by omega)
    have el : (p ++ [q]).length = p.length + 1 := by rw [List.length_append]; rfl
    refine J.goto (tgt := 147) X dX1_takes_174 (by decide) ?_
    refine ih (p ++ [q]) h2 _ (by rw [List.append_assoc]; exact hQ) S1 S2 (by rw [el]; exact I1) (ff.tr ((f1.mono (fun x hx => Or.inr (Or.inr hx))).tr (f2.mono (fun x hx => by unfold CT; omega)))) (by rw [el]; omega)
