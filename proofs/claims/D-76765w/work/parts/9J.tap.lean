/-! SegmentedCache: tape, item -/
theorem Fr.jk (T : Nat → Prop) (h : JIH) (zs : List Nat) : Fr T h (hjk h zs) := ⟨rfl, by rw [hjk_new]; omega, fun a _ => hjk_tag h zs a, fun a _ _ => hjk_get h zs a⟩
theorem GX.tpc {K : JK} {h h' : JIH} {o : Nat} {p : GP} {g : GA} {tz tzi : Nat} {T : Nat → Prop} (S : GX K h o p g tz tzi) (f : Fr T h h') (hT : ∀ z, T z → z = 9 ∨ (48 ≤ z ∧ z ≤ 53) ∨ (70 ≤ z ∧ z ≤ 75)) {tp' : Nat → Option (Nat × Nat × (Nat → Int64))} (hw : GW K h' p tp') : GX K h' o p (g.wtp tp') tz tzi := by
  obtain ⟨s1, ⟨ta, D, s2⟩, ⟨ta', D', s3⟩, s4, s5, s6, s7, s8, s9, s10, s11, s12, s13⟩ := S
  have nb : ∀ z, z ≠ 9 → (z < 48 ∨ 53 < z) → (z < 70 ∨ 75 < z) → ¬ T z := fun z a b c q => by
    have := hT z q
    omega
  have n1 : ¬ T 1 := nb 1 (by decide) (by decide) (by decide)
  exact ⟨s1.fr f (nb _ (by decide) (by decide) (by decide)), ⟨ta, D, s2.fr f (fun x a b => nb x (by omega) (by omega) (by omega)) n1⟩, ⟨ta', D', s3.fr f (fun x a b => nb x (by omega) (by omega) (by omega)) n1⟩, s4.fr f (nb _ (by decide) (by decide) (by decide)), s5.fr f (nb _ (by decide) (by decide) (by decide)), s6.fr f (nb _ (by decide) (by decide) (by decide)), s7.fr f n1 (nb _ (by decide) (by decide) (by decide)) (nb _ (by decide) (by decide) (by decide)) (fun i hi => nb _ (by omega) (by omega) (by omega)), s8.fr f n1 (nb _ (by decide) (by decide) (by decide)) (nb _ (by decide) (by decide) (by decide)), s9.fr f n1 (nb _ (by decide) (by decide) (by decide)) (nb _ (by decide) (by decide) (by decide)), hw, s11, s12, s13⟩
abbrev TPT : Type := Option (Nat × Nat × (Nat → Int64))
def upT (tp : Nat → TPT) (j : Nat) (v : TPT) : Nat → TPT := fun i => if i = j then v else tp i
/-- one tape changes -/
theorem GW.up {K : JK} {h h' : JIH} {p : GP} {tp : Nat → TPT} {j : Nat} {v : TPT} {r : Option Nat} {T : Nat → Prop} (S : GW K h p tp) (hj : j < 6) (f : Fr T h h') (hT : ∀ z, T z → z = 9 ∨ z = 70 + j ∨ z = 48 + j) (ct : hc h' (70 + j) (p.tpa j) (jO 4 [va_rf r])) (gv : GV K h' (48 + j) r v) : GW K h' p (upT tp j v) := by
  obtain ⟨⟨q, c, e⟩, w⟩ := S
  have nb : ∀ z, z ≠ 9 → z ≠ 70 + j → z ≠ 48 + j → ¬ T z := fun z a b c q => by
    have := hT z q
    omega
  refine ⟨⟨q, c.fr f (nb _ (by decide) (by omega) (by omega)), e⟩, fun i hi => ?_⟩
  unfold upT
  by_cases hij : i = j
  · rw [if_pos hij]
    subst hij
    exact ⟨r, ct, gv⟩
  · rw [if_neg hij]
    obtain ⟨r', c', v'⟩ := w i hi
    exact ⟨r', c'.fr f (nb _ (by omega) (by omega) (by omega)), v'.fr f (nb _ (by omega) (by omega) (by omega))⟩
theorem fit0 : ∀ ty : FieldType, ty = .byte ∨ ty = .short ∨ ty = .boolean → fits ty (.int 0) = true := by
  intro ty h
  rcases h with rfl | rfl | rfl <;> decide
def rowX (hE : JIH) (n : Int32) : JQX := fun x E h' => n < 0 ∧ E = "java/lang/NegativeArraySizeException" ∧ ∃ zs : List Nat, hjk hE zs = h' ∧ zs.length ≤ 3 ∧ zs.sum ≤ 54
theorem x_rowOf {K : JK} {l : Launch} {hE : JIH} (F : JF K) (hl : l.stackTraces = false) {so tg : Nat} (hso : so ≤ 4) {n : Int32} (hn : n ≤ nI 60) (rm : hres hE + 100 ≤ jRL) :
    Ct K l yX0_rowOf wX0_rowOf 171 [.int (nI so), .int n] hE (jRa (fun r h' => ∃ a m, r = some a ∧ n = nI m ∧ m ≤ 60 ∧ GV K h' tg (some a) (some (so, m, fun _ => 0)) ∧ Fr (fun z => z = 9) hE h' ∧ hres h' ≤ hres hE + 68)) (rowX hE n) := by
  refine st_X0_rowOf (ls := [some (.int (nI so)), some (.int n)]) F rfl (body := fun M X => ?_)
  refine J.iload0 X dX0_rowOf_0 ?_
  have hnn : ¬ n < 0 → ∃ m, m ≤ 60 ∧ n = nI m := by
    intro h
    obtain ⟨m, hm, e⟩ := in_nat (lo := 0) (m := 60) (by decide) (by decide) ⟨by rw [Int32.not_lt] at h; exact h, hn⟩
    exact ⟨m, hm, e⟩
  by_cases hneg : n < 0
  · have neg : ∀ (pc9 : Nat) (at_ : ArrayType), decode cX0_rowOf pc9 = .ok (.newarray at_, 2) → J M hE pc9 [some (.int (nI so)), some (.int n)] [.int n] := by
      intro pc9 at_ hd
      refine J.newZ_ X hd hneg (JN.go (nb := 44) (names := ["java/lang/RuntimeException", "java/lang/Exception"]) X hl (by decide) (by decide) (by decide) (by decide) (by decide) (ex_Neg F) (tx_negm hneg) (tx_neg n) (by decide) (by decide) (by omega) (fun zs x z1 z2 => ?_))
      exact JT.out X (fun z hz => by cases hz) ⟨hneg, rfl, zs, rfl, z1, z2⟩
    by_cases q0 : so = 0
    · subst q0
      refine J.tsIn (off := 31) (tgt := 32) X dX0_rowOf_1 (by decide) (by decide) (by decide) (by decide) ?_
      refine J.iload1 X dX0_rowOf_32 ?_
      exact neg _ _ dX0_rowOf_33
    by_cases q1 : so = 1
    · subst q1
      refine J.tsIn (off := 35) (tgt := 36) X dX0_rowOf_1 (by decide) (by decide) (by decide) (by decide) ?_
      refine J.iload1 X dX0_rowOf_36 ?_
      exact neg _ _ dX0_rowOf_37
    by_cases q2 : so = 2
    · subst q2
      refine J.tsIn (off := 39) (tgt := 40) X dX0_rowOf_1 (by decide) (by decide) (by decide) (by decide) ?_
      refine J.iload1 X dX0_rowOf_40 ?_
      exact neg _ _ dX0_rowOf_41
    by_cases q3 : so = 3
    · subst q3
      refine J.tsIn (off := 43) (tgt := 44) X dX0_rowOf_1 (by decide) (by decide) (by decide) (by decide) ?_
      refine J.iload1 X dX0_rowOf_44 ?_
      exact neg _ _ dX0_rowOf_45
    have q4 : so = 4 := by omega
    subst q4
    refine J.tsOut (tgt := 48) X dX0_rowOf_1 (by decide) (by decide) ?_
    refine J.iload1 X dX0_rowOf_48 ?_
    exact neg _ _ dX0_rowOf_49
  · obtain ⟨m, hm, rfl⟩ := hnn hneg
    have fin : ∀ (e : va_E), esz e = m → GV K (hpush hE tg e) tg (some (hnew hE)) (some (so, m, fun _ => 0)) → ∃ a m', some (hnew hE) = some a ∧ nI m = nI m' ∧ m' ≤ 60 ∧ GV K (hpush hE tg e) tg (some a) (some (so, m', fun _ => 0)) ∧ Fr (fun z => z = 9) hE (hpush hE tg e) ∧ hres (hpush hE tg e) ≤ hres hE + 68 := by
      intro e he gv
      exact ⟨hnew hE, m, rfl, rfl, hm, gv, Fr.push _ _ _ _, by rw [hres_push, he]; omega⟩
    by_cases q0 : so = 0
    · subst q0
      refine J.tsIn (off := 31) (tgt := 32) X dX0_rowOf_1 (by decide) (by decide) (by decide) (by decide) ?_
      refine J.iload1 X dX0_rowOf_32 ?_
      refine J.newB tg X dX0_rowOf_33 q419 rfl (by omega) (by omega) ?_
      refine J.areturnO X dX0_rowOf_35 (jRa.ofR ?_)
      exact fin _ rfl ⟨0, m, fun _ => 0, rfl, hm, Or.inl ⟨rfl, _, hc.new _ _ _, fun i _ => ⟨rfl, fit0 _ (by decide)⟩⟩⟩
    by_cases q1 : so = 1
    · subst q1
      refine J.tsIn (off := 35) (tgt := 36) X dX0_rowOf_1 (by decide) (by decide) (by decide) (by decide) ?_
      refine J.iload1 X dX0_rowOf_36 ?_
      refine J.newS tg X dX0_rowOf_37 q2666 rfl (by omega) (by omega) ?_
      refine J.areturnO X dX0_rowOf_39 (jRa.ofR ?_)
      exact fin _ rfl ⟨1, m, fun _ => 0, rfl, hm, Or.inr (Or.inl ⟨rfl, _, hc.new _ _ _, fun i _ => ⟨rfl, fit0 _ (by decide)⟩⟩)⟩
    by_cases q2 : so = 2
    · subst q2
      refine J.tsIn (off := 39) (tgt := 40) X dX0_rowOf_1 (by decide) (by decide) (by decide) (by decide) ?_
      refine J.iload1 X dX0_rowOf_40 ?_
      refine J.newI tg X dX0_rowOf_41 q387 rfl (by omega) (by omega) ?_
      refine J.areturnO X dX0_rowOf_43 (jRa.ofR ?_)
      exact fin _ rfl ⟨2, m, fun _ => 0, rfl, hm, Or.inr (Or.inr (Or.inl ⟨rfl, _, hc.new _ _ _, fun i _ => rfl⟩))⟩
    by_cases q3 : so = 3
    · subst q3
      refine J.tsIn (off := 43) (tgt := 44) X dX0_rowOf_1 (by decide) (by decide) (by decide) (by decide) ?_
      refine J.iload1 X dX0_rowOf_44 ?_
      refine J.newL tg X dX0_rowOf_45 q2667 rfl (by omega) (by omega) ?_
      refine J.areturnO X dX0_rowOf_47 (jRa.ofR ?_)
      exact fin _ rfl ⟨3, m, fun _ => 0, rfl, hm, Or.inr (Or.inr (Or.inr (Or.inl ⟨rfl, _, hc.new _ _ _, fun i _ => rfl⟩)))⟩
    have q4 : so = 4 := by omega
    subst q4
    refine J.tsOut (tgt := 48) X dX0_rowOf_1 (by decide) (by decide) ?_
    refine J.iload1 X dX0_rowOf_48 ?_
    refine J.newZ tg X dX0_rowOf_49 q388 rfl (by omega) (by omega) ?_
    refine J.areturnO X dX0_rowOf_51 (jRa.ofR ?_)
    exact fin _ rfl ⟨4, m, fun _ => 0, rfl, hm, Or.inr (Or.inr (Or.inr (Or.inr ⟨rfl, _, hc.new _ _ _, fun i _ => ⟨rfl, fit0 _ (by decide)⟩⟩)))⟩
def gtape (g : GA) (t s n r : Int32) (g' : GA) : Prop := (¬ ((0 : Int32) ≤ t ∧ t ≤ 5) ∧ r = -1 ∧ g' = g) ∨ ∃ j, j < 6 ∧ t = nI j ∧ (((¬ (-1 ≤ s ∧ s ≤ nI 4) ∨ (s ≠ -1 ∧ nI 60 < n)) ∧ r = -2 ∧ g' = g) ∨ (s = -1 ∧ r = nI 1 ∧ g' = g.wtp (upT g.tp j none)) ∨
  ∃ so, so ≤ 4 ∧ s = nI so ∧ n ≤ nI 60 ∧ ((n < 0 ∧ r = -14 ∧ g' = g) ∨ ∃ m, m ≤ 60 ∧ n = nI m ∧ r = nI 1 ∧ g' = g.wtp (upT g.tp j (some (so, m, fun _ => 0)))))
theorem x_tape {K : JK} {l : Launch} {hE : JIH} {o : Nat} {p : GP} {g : GA} {tz tzi : Nat} (F : JF K) (hl : l.stackTraces = false) (S : GX K hE o p g tz tzi) {t s n r : Int32} {g' : GA} (hf : gtape g t s n r g') (rm : RM hE tz 100) :
    Ct K l yX0_tape wX0_tape 173 [.ref o, .int t, .int s, .int n] hE (jRi (fun r0 h' => r0 = r ∧ GX K h' o p g' tz tzi ∧ hres h' ≤ hres hE + 100 ∧ Fr n5 hE h')) jNo := by
  have so := S.o
  obtain ⟨ta, D, S1⟩ := S.cc
  have r8 := S1.rm8 rm
  clear S1
  have gw := S.gw
  obtain ⟨⟨ft, ctp, hft⟩, hw⟩ := id gw
  refine st_X0_tape (ls := [some (.ref o), some (.int t), some (.int s), some (.int n), none]) F rfl (body := fun M X => ?_)
  refine J.iload1 X dX0_tape_0 ?_
  refine J.callSi X dX0_tape_1 lk_X0_315 ce_X0_isTape (x_isTape F t) (by decide) rfl (fun r0 h2 e _ => ?_)
  obtain ⟨rfl, rfl⟩ := e
  rcases hf with ⟨q, rfl, rfl⟩ | ⟨j, hj, rfl, hf⟩
  · skip
    refine J.if_neB (tgt := 9) X dX0_tape_4 (by decide) (fun q9 => absurd q9 (q)) (fun _ => ?_)
    refine J.iconst (v := -1) X dX0_tape_7 (by decide) ?_
    refine J.ireturn X dX0_tape_8 (jRi.of ?_)
    exact ⟨rfl, S, by omega, Fr.rf _ _⟩
  obtain ⟨rw, ct, gv⟩ := hw j hj
  have hfj := hft j hj
  refine J.if_neB (tgt := 9) X dX0_tape_4 (by decide) (fun _ => ?_) (fun q9 => absurd q9 (fun z => z ⟨nI_le (a := 0) (Nat.zero_le _) (by omega), nI_le (b := 5) (by omega) (by decide)⟩))
  refine J.iload2 X dX0_tape_9 ?_
  refine J.iconst (v := -1) X dX0_tape_10 (by decide) ?_
  refine J.iconst (v := nI 4) X dX0_tape_11 (by decide) ?_
  refine J.callSi X dX0_tape_12 lk_X0_5 ce_X0_in (x_in F s (-1) (nI 4)) (by decide) rfl (fun r0 h2 e _ => ?_)
  obtain ⟨rfl, rfl⟩ := e
  have bad : r = -2 → g' = g → J M hE 29 [some (.ref o), some (.int (nI j)), some (.int s), some (.int n), none] [] := by
    intro e1 e2
    subst e1 e2
    refine J.bipush (v := -2) X dX0_tape_29 (by decide) ?_
    refine J.ireturn X dX0_tape_31 (jRi.of ?_)
    exact ⟨rfl, S, by omega, Fr.rf _ _⟩
  -- from 32 on
  have good : ((s = -1 ∧ r = nI 1 ∧ g' = g.wtp (upT g.tp j none)) ∨ ∃ so, so ≤ 4 ∧ s = nI so ∧ n ≤ nI 60 ∧ ((n < 0 ∧ r = -14 ∧ g' = g) ∨ ∃ m, m ≤ 60 ∧ n = nI m ∧ r = nI 1 ∧ g' = g.wtp (upT g.tp j (some (so, m, fun _ => 0))))) → J M hE 32 [some (.ref o), some (.int (nI j)), some (.int s), some (.int n), none] [] := by
    intro hf
    refine J.aload0 X dX0_tape_32 ?_
    refine J.getf X dX0_tape_33 fl_X0_55_X0 (so.1) rfl ?_
    refine J.iload1 X dX0_tape_36 ?_
    refine J.aald (t := 9) X dX0_tape_37 ctp.1 rfl rfl hj ?_
    rw [hfj]
    refine J.iload2 X dX0_tape_38 ?_
    refine J.iconst (v := -1) X dX0_tape_39 (by decide) ?_
    rcases hf with ⟨rfl, rfl, rfl⟩ | ⟨so', hso, rfl, hn, hf⟩
    · skip
      refine J.icmp_ne (tgt := 47) X dX0_tape_40 (by decide) (fun q9 => absurd q9 (fun z => z rfl)) (fun _ => ?_)
      refine J.aconst_null X dX0_tape_43 ?_
      refine J.goto (tgt := 52) X dX0_tape_44 (by decide) ?_
      refine J.putf X dX0_tape_52 (pl_X0_318_X4 _) ct.1 (Nat.le_of_ble_eq_true rfl) rfl rfl ?_
      have c1 := ct.same (jO 4 [va_rf none])
      have f1 : Fr (fun z => z = 70 + j) hE (hset hE (p.tpa j) (jO 4 [va_rf none])) := Fr.set ct rfl
      have r1 : hres (hset hE (p.tpa j) (jO 4 [va_rf none])) = hres hE := by refine hres_setS ct ?_; rfl
      show J M (hset hE (p.tpa j) (jO 4 [va_rf none])) _ _ _
      refine J.iconst (v := nI 1) X dX0_tape_55 (by decide) ?_
      refine J.ireturn X dX0_tape_56 (jRi.of ?_)
      exact ⟨rfl, S.tpc f1 (fun z hz => by omega) (gw.up hj f1 (fun z hz => by omega) c1 rfl), by omega, f1.mono (fun z hz => by show z ≠ 5; omega)⟩
    have hs1 : ¬ nI so' = -1 := bI_m1 (by omega)
    refine J.icmp_ne (tgt := 47) X dX0_tape_40 (by decide) (fun _ => ?_) (fun q9 => absurd q9 (hs1))
    refine J.iload2 X dX0_tape_47 ?_
    refine J.iload3 X dX0_tape_48 ?_
    refine J.callSaX X dX0_tape_49 lk_X0_351 ce_X0_rowOf (x_rowOf F hl (tg := 48 + j) hso hn (by omega)) (by decide) rfl (fun r1 h1 z _ => ?_) (fun x E h1 z _ => ?_)
    rotate_left
    · obtain ⟨hneg, rfl, zs, rfl, z1, z2⟩ := z
      refine JT.catch (a := 32) (b := 56) (t := 57) (ct := 355) X [] [] rfl (fun z hz => by cases hz) (by decide) (by decide) q2659 q738 ?_
      refine J.astore4 X dX0_tape_57 ?_
      refine J.bipush (v := -14) X dX0_tape_59 (by decide) ?_
      refine J.ireturn X dX0_tape_61 (jRi.of ?_)
      rcases hf with ⟨-, rfl, rfl⟩ | ⟨m, hm, rfl, -⟩
      · have f1 : Fr (fun z => z = 9) hE (hjk hE zs) := Fr.jk _ _ _
        exact ⟨rfl, S.tpc f1 (fun z hz => Or.inl hz) (gw.fr f1 (fun z a b => by omega)), by rw [hjk_res]; omega, f1.mono (fun z hz => by show z ≠ 5; omega)⟩
      · exact absurd hneg (nI_pos (by omega))
    obtain ⟨a, m, rfl, rfl, hm, gv1, f1, r1⟩ := z
    rcases hf with ⟨hneg, -⟩ | ⟨m', hm', e, rfl, rfl⟩
    · exact absurd hneg (nI_pos (by omega))
    cases nI_inj (by omega) (by omega) e
    have ct1 := ct.fr f1 (by omega)
    refine J.putf X dX0_tape_52 (pl_X0_318_X4 _) ct1.1 (Nat.le_of_ble_eq_true rfl) rfl rfl ?_
    have c2 := ct1.same (jO 4 [va_rf (some a)])
    have f2 : Fr (fun z => z = 70 + j) h1 (hset h1 (p.tpa j) (jO 4 [va_rf (some a)])) := Fr.set ct1 rfl
    have r2 : hres (hset h1 (p.tpa j) (jO 4 [va_rf (some a)])) = hres h1 := by refine hres_setS ct1 ?_; rfl
    show J M (hset h1 (p.tpa j) (jO 4 [va_rf (some a)])) _ _ _
    generalize hset h1 (p.tpa j) (jO 4 [va_rf (some a)]) = h2 at c2 f2 r2
    refine J.iconst (v := nI 1) X dX0_tape_55 (by decide) ?_
    refine J.ireturn X dX0_tape_56 (jRi.of ?_)
    have ff : Fr (fun z => z = 9 ∨ z = 70 + j) hE h2 := (f1.mono (fun z hz => Or.inl hz)).tr (f2.mono (fun z hz => Or.inr hz))
    exact ⟨rfl, S.tpc ff (fun z hz => by omega) (gw.up hj ff (fun z hz => by omega) c2 (gv1.fr f2 (by omega))), by omega, ff.mono (fun z hz => by show z ≠ 5; omega)⟩
  refine J.if_eqB (tgt := 29) X dX0_tape_15 (by decide) (fun c1 => ?_) (fun c1 => ?_)
  · skip
    rcases hf with ⟨-, e1, e2⟩ | hf
    · exact bad e1 e2
    · exfalso
      apply c1
      rcases hf with ⟨rfl, -⟩ | ⟨so', hso, rfl, -⟩
      · decide
      · exact ⟨by have := nI_pos (n := so') (by omega); rw [Int32.not_lt] at this; exact Int32.le_trans (by decide) this, nI_le (by omega) (by decide)⟩
  · skip
    refine J.iload2 X dX0_tape_18 ?_
    refine J.iconst (v := -1) X dX0_tape_19 (by decide) ?_
    refine J.icmp_eq (tgt := 32) X dX0_tape_20 (by decide) (fun c2 => ?_) (fun c2 => ?_)
    · skip
      rcases hf with ⟨h | h, -⟩ | hf
      · exact absurd c1 h
      · exact absurd c2 h.1
      · exact good hf
    · skip
      refine J.iload3 X dX0_tape_23 ?_
      refine J.bipush (v := nI 60) X dX0_tape_24 (by decide) ?_
      refine J.icmp_le (tgt := 32) X dX0_tape_26 (by decide) (fun c3 => ?_) (fun c3 => ?_)
      · skip
        rcases hf with ⟨h | h, -⟩ | hf
        · exact absurd c1 h
        · exact absurd c3 (by rw [Int32.not_le]; exact h.2)
        · exact good hf
      · skip
        rcases hf with ⟨-, e1, e2⟩ | ⟨e, -⟩ | ⟨so', hso, e, hn, -⟩
        · exact bad e1 e2
        · exact absurd e c2
        · exact absurd hn c3
