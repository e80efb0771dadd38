/-! ArrayDeque -/
theorem dq_dec {K : JK} {l : Launch} {hE : JIH} (F : JF K) {i n : Nat} (hi : i < n) (hn : n < 1000) :
    Ct K l yJ4_dec wJ4_dec 0 [.int (nI i), .int (nI n)] hE (jRi (fun r h' => r = nI (if i = 0 then n - 1 else i - 1) ∧ hE = h')) jNo := by
  refine st_J4_dec (ls := [some (.int (nI i)), some (.int (nI n))]) F rfl (body := fun M X => ?_)
  refine J.iinc0 (d := -1) X dJ4_dec_0 (by decide) ?_
  cases i with
  | zero =>
    refine J.iload0 X dJ4_dec_3 ?_
    refine J.if_ge (tgt := 11) X dJ4_dec_4 (by decide) (fun c1 => ?_) (fun c1 => ?_)
    · skip
      exact absurd c1 (by decide)
    · skip
      refine J.iload1 X dJ4_dec_7 ?_
      refine J.iconst (v := nI 1) X dJ4_dec_8 (by decide) ?_
      refine J.isubN X dJ4_dec_9 (by omega) ?_
      refine J.istore0 X dJ4_dec_10 ?_
      refine J.iload0 X dJ4_dec_11 ?_
      refine J.zreturn X dJ4_dec_12 (rfl) (jRi.of ?_)
      exact ⟨by rw [if_pos rfl], rfl⟩
  | succ i =>
    rw [pk_m1]
    refine J.iload0 X dJ4_dec_3 ?_
    refine J.if_geN (tgt := 11) X dJ4_dec_4 (by decide) (by omega) ?_
    refine J.iload0 X dJ4_dec_11 ?_
    refine J.zreturn X dJ4_dec_12 (rfl) (jRi.of ?_)
    exact ⟨by rw [if_neg (by omega)]; rfl, rfl⟩
theorem dq_inc {K : JK} {l : Launch} {hE : JIH} (F : JF K) {i n : Nat} (hi : i < n) (hn : n < 1000) :
    Ct K l yJ4_inc wJ4_inc 0 [.int (nI i), .int (nI n)] hE (jRi (fun r h' => r = nI (if i + 1 = n then 0 else i + 1) ∧ hE = h')) jNo := by
  refine st_J4_inc (ls := [some (.int (nI i)), some (.int (nI n))]) F rfl (body := fun M X => ?_)
  refine J.iinc0N (d := 1) X dJ4_inc_0 (by decide) ?_
  refine J.iload0 X dJ4_inc_3 ?_
  refine J.iload1 X dJ4_inc_4 ?_
  refine J.icmp_ltN (tgt := 10) X dJ4_inc_5 (by decide) (by omega) (by omega) (fun c1 => ?_) (fun c1 => ?_)
  · skip
    refine J.iload0 X dJ4_inc_10 ?_
    refine J.zreturn X dJ4_inc_11 (rfl) (jRi.of ?_)
    exact ⟨by rw [if_neg (by omega)], rfl⟩
  · skip
    refine J.iconst (v := nI 0) X dJ4_inc_8 (by decide) ?_
    refine J.istore0 X dJ4_inc_9 ?_
    refine J.iload0 X dJ4_inc_10 ?_
    refine J.zreturn X dJ4_inc_11 (rfl) (jRi.of ?_)
    exact ⟨by rw [if_pos (by omega)], rfl⟩
theorem nI_sub_neg {i j n : Nat} (h : i < j) (hj : j ≤ n) (hn : n < 1000) : nI i - nI j < 0 ∧ nI i - nI j + nI n = nI (i + n - j) := by
  have e : nI i - nI j = -nI (j - i) := by
    rw [show nI j = nI i + nI (j - i) by rw [nI_add]; congr 1; omega]
    rw [Int32.sub_eq_add_neg, Int32.neg_add, Int32.sub_eq_add_neg, ← Int32.add_assoc, Int32.add_right_neg, Int32.zero_add]
  refine ⟨?_, ?_⟩
  · rw [e]
    have h1 : (nI (j - i)).toInt = (j - i : Nat) := nI_toInt (by omega)
    rw [Int32.lt_iff_toInt_lt, Int32.toInt_neg, h1]
    show Int.bmod _ _ < 0
    rw [Int.bmod_eq_of_le (by omega) (by omega)]
    omega
  · rw [e, show nI n = nI (j - i) + nI (i + n - j) by rw [nI_add]; congr 1; omega, ← Int32.add_assoc, Int32.add_left_neg, Int32.zero_add]
theorem dq_sub {K : JK} {l : Launch} {hE : JIH} (F : JF K) {i j n : Nat} (hi : i < n) (hj : j < n) (hn : n < 1000) :
    Ct K l yJ4_sub wJ4_sub 0 [.int (nI i), .int (nI j), .int (nI n)] hE (jRi (fun r h' => r = nI (if j ≤ i then i - j else i + n - j) ∧ hE = h')) jNo := by
  refine st_J4_sub (ls := [some (.int (nI i)), some (.int (nI j)), some (.int (nI n))]) F rfl (body := fun M X => ?_)
  by_cases c : j ≤ i
  · skip
    refine J.iload0 X dJ4_sub_0 ?_
    refine J.iload1 X dJ4_sub_1 ?_
    refine J.isubN X dJ4_sub_2 (c) ?_
    refine J.dup X dJ4_sub_3 ?_
    refine J.istore0 X dJ4_sub_4 ?_
    refine J.if_geN (tgt := 12) X dJ4_sub_5 (by decide) (by omega) ?_
    refine J.iload0 X dJ4_sub_12 ?_
    refine J.zreturn X dJ4_sub_13 (rfl) (jRi.of ?_)
    exact ⟨by rw [if_pos c], rfl⟩
  · have h1 := nI_sub_neg (show i < j by omega) (show j ≤ n by omega) hn
    refine J.iload0 X dJ4_sub_0 ?_
    refine J.iload1 X dJ4_sub_1 ?_
    refine J.isub X dJ4_sub_2 ?_
    refine J.dup X dJ4_sub_3 ?_
    refine J.istore0 X dJ4_sub_4 ?_
    refine J.if_ge (tgt := 12) X dJ4_sub_5 (by decide) (fun c1 => ?_) (fun c1 => ?_)
    · skip
      exact absurd h1.1 (Int32.not_lt.mpr c1)
    · skip
      refine J.iload0 X dJ4_sub_8 ?_
      refine J.iload2 X dJ4_sub_9 ?_
      refine J.iadd X dJ4_sub_10 ?_
      refine J.istore0 X dJ4_sub_11 ?_
      refine J.iload0 X dJ4_sub_12 ?_
      refine J.zreturn X dJ4_sub_13 (rfl) (jRi.of ?_)
      exact ⟨by rw [if_neg c]; exact h1.2, rfl⟩
/-- a deque of keys (address, number), the first first -/
def DQ (K : JK) (t : Nat) (h : JIH) (d : Nat) (P : List (Nat × Nat)) : Prop := ∃ (el n hd : Nat) (f : Nat → Option Nat), hc h t d (jO 14 [.ref el, .int (nI hd), .int (nI ((hd + P.length) % n))]) ∧ hc h t el (jAR K 5 n f) ∧ (n = 17 ∨ n = 36) ∧ hd < n ∧ P.length < n ∧ (∀ i, i < P.length → f ((hd + i) % n) = (P[i]?).map Prod.fst) ∧ ∀ p ∈ P, IsKey h p.1 p.2
theorem DQ.fr {K : JK} {t : Nat} {h h' : JIH} {d : Nat} {P : List (Nat × Nat)} {T : Nat → Prop} (S : DQ K t h d P) (g : Fr T h h') (ht : ¬ T t) (h1 : ¬ T 1) : DQ K t h' d P := by
  obtain ⟨el, n, hd, f, c1, c2, hn, hh, hl, hf, hk⟩ := S
  exact ⟨el, n, hd, f, c1.fr g ht, c2.fr g ht, hn, hh, hl, hf, fun p hp => (hk p hp).fr g h1⟩
theorem DQ.ob {K : JK} {t : Nat} {h : JIH} {d : Nat} {P : List (Nat × Nat)} (S : DQ K t h d P) : ∃ fs, hc h t d (jO 14 fs) := by
  obtain ⟨el, n, hd, f, c1, -⟩ := S
  exact ⟨_, c1⟩
theorem DQ.key {K : JK} {t : Nat} {h : JIH} {d : Nat} {P : List (Nat × Nat)} (S : DQ K t h d P) : ∀ p ∈ P, IsKey h p.1 p.2 := by
  obtain ⟨el, n, hd, f, c1, c2, hn, hh, hl, hf, hk⟩ := S
  exact hk
theorem dq_size {K : JK} {l : Launch} {hE : JIH} {t d : Nat} {P : List (Nat × Nat)} (F : JF K) (T : DQ K t hE d P) :
    Ct K l yJ4_size wJ4_size 1 [.ref d] hE (jRi (fun r h' => r = nI P.length ∧ hE = h')) jNo := by
  obtain ⟨el, n, hd, f, c1, c2, hn, hh, hl, hf, hk⟩ := T
  have hn2 : n < 1000 := by omega
  have hm : (hd + P.length) % n < n := Nat.mod_lt _ (by omega)
  refine st_J4_size (ls := [some (.ref d)]) F rfl (body := fun M X => ?_)
  refine J.aload0 X dJ4_size_0 ?_
  refine J.getf X dJ4_size_1 fl_J4_20_J4 (c1.1) rfl ?_
  refine J.aload0 X dJ4_size_4 ?_
  refine J.getf X dJ4_size_5 fl_J4_24_J4 (c1.1) rfl ?_
  refine J.aload0 X dJ4_size_8 ?_
  refine J.getf X dJ4_size_9 fl_J4_3_J4 (c1.1) rfl ?_
  refine J.alen (t := 5) (v := nI n) X dJ4_size_12 (c2.1) rfl (rfl) ?_
  refine J.callSi X dJ4_size_13 lk_J4_127 ce_J4_sub (dq_sub F hm hh hn2) (by decide) rfl (fun r h' e _ => ?_)
  obtain ⟨rfl, rfl⟩ := e
  refine J.zreturn X dJ4_size_16 (rfl) (jRi.of ?_)
  refine ⟨?_, rfl⟩
  congr 1
  by_cases c : hd + P.length < n
  · rw [Nat.mod_eq_of_lt c, if_pos (by omega)]; omega
  · rw [Nat.mod_eq_sub_mod (by omega), Nat.mod_eq_of_lt (by omega), if_neg (by omega)]; omega
theorem dq_cc {K : JK} {l : Launch} {hE : JIH} (F : JF K) {el n i e : Nat} {f : Nat → Option Nat} (ha : hget hE el = some (jAR K 5 n f)) (hn : n < 1000) (hi : i ≤ n) (he : e ≤ n) :
    Ct K l yJ4_circularClear wJ4_circularClear 0 [.ref el, .int (nI i), .int (nI e)] hE (jRv (fun h' => ∃ f', h' = hset hE el (jAR K 5 n f'))) jNo := by
  refine st_J4_circularClear (ls := [some (.ref el), some (.int (nI i)), some (.int (nI e)), none]) F rfl (body := fun M X => ?_)
  have lp : ∀ (d i to : Nat) (f' : Nat → Option Nat), to ≤ i + d → to ≤ n → i ≤ n → (∀ (f' : Nat → Option Nat) (i' : Nat), J M (hset hE el (jAR K 5 n f')) 27 [some (.ref el), some (.int (nI i')), some (.int (nI e)), some (.int (nI to))] []) → J M (hset hE el (jAR K 5 n f')) 12 [some (.ref el), some (.int (nI i)), some (.int (nI e)), some (.int (nI to))] [] := by
    intro d
    induction d with
    | zero =>
      intro i to f' h1 h2 h3 kk
      refine J.iload1 X dJ4_circularClear_12 ?_
      refine J.iload3 X dJ4_circularClear_13 ?_
      refine J.icmp_geN (tgt := 27) X dJ4_circularClear_14 (by decide) (by omega) (by omega) (fun _ => ?_) (fun q9 => absurd q9 (by omega))
      exact kk _ _
    | succ d ih =>
      intro i to f' h1 h2 h3 kk
      refine J.iload1 X dJ4_circularClear_12 ?_
      refine J.iload3 X dJ4_circularClear_13 ?_
      refine J.icmp_geN (tgt := 27) X dJ4_circularClear_14 (by decide) (by omega) (by omega) (fun c1 => ?_) (fun c1 => ?_)
      · skip
        exact kk _ _
      · skip
        refine J.aload0 X dJ4_circularClear_17 ?_
        refine J.iload1 X dJ4_circularClear_18 ?_
        refine J.aconst_null X dJ4_circularClear_19 ?_
        refine J.aastN (C := "java/lang/Object") X dJ4_circularClear_20 (hget_set_same _ ha) rfl rfl (show i < n by omega) ?_
        rw [hset_hset ha]
        refine J.iinc1N (d := 1) X dJ4_circularClear_21 (by decide) ?_
        refine J.goto (tgt := 12) X dJ4_circularClear_24 (by decide) ?_
        exact ih (i + 1) to _ (by omega) h2 (by omega) kk
  have fin : ∀ (f' : Nat → Option Nat) (i' : Nat), J M (hset hE el (jAR K 5 n f')) 27 [some (.ref el), some (.int (nI i')), some (.int (nI e)), some (.int (nI e))] [] := by
    intro f' i'
    refine J.iload3 X dJ4_circularClear_27 ?_
    refine J.iload2 X dJ4_circularClear_28 ?_
    refine J.icmp_neN (tgt := 35) X dJ4_circularClear_29 (by decide) (by omega) (by omega) (fun q9 => absurd q9 (by omega)) (fun _ => ?_)
    refine J.goto (tgt := 42) X dJ4_circularClear_32 (by decide) ?_
    refine J.vreturn X dJ4_circularClear_42 (jRv.of ?_)
    exact ⟨f', rfl⟩
  refine J.iload1 X dJ4_circularClear_0 ?_
  refine J.iload2 X dJ4_circularClear_1 ?_
  refine J.icmp_gtN (tgt := 9) X dJ4_circularClear_2 (by decide) (by omega) (by omega) (fun c1 => ?_) (fun c1 => ?_)
  · skip
    refine J.aload0 X dJ4_circularClear_9 ?_
    refine J.alen (t := 5) (v := nI n) X dJ4_circularClear_10 (ha) rfl (rfl) ?_
    refine J.istore3 X dJ4_circularClear_11 ?_
    refine J.fresh ha ?_
    refine lp n i n f (by omega) (Nat.le_refl _) hi (fun f' i' => ?_)
    refine J.iload3 X dJ4_circularClear_27 ?_
    refine J.iload2 X dJ4_circularClear_28 ?_
    refine J.icmp_neN (tgt := 35) X dJ4_circularClear_29 (by decide) (by omega) (by omega) (fun c2 => ?_) (fun c2 => ?_)
    · skip
      refine J.iconst (v := nI 0) X dJ4_circularClear_35 (by decide) ?_
      refine J.istore1 X dJ4_circularClear_36 ?_
      refine J.iload2 X dJ4_circularClear_37 ?_
      refine J.istore3 X dJ4_circularClear_38 ?_
      refine J.goto (tgt := 12) X dJ4_circularClear_39 (by decide) ?_
      exact lp n 0 e _ (by omega) he (by omega) fin
    · skip
      subst c2
      refine J.goto (tgt := 42) X dJ4_circularClear_32 (by decide) ?_
      refine J.vreturn X dJ4_circularClear_42 (jRv.of ?_)
      exact ⟨f', rfl⟩
  · skip
    refine J.iload2 X dJ4_circularClear_5 ?_
    refine J.goto (tgt := 11) X dJ4_circularClear_6 (by decide) ?_
    refine J.istore3 X dJ4_circularClear_11 ?_
    refine J.fresh ha ?_
    exact lp n i e f (by omega) he hi fin
theorem dq_clear {K : JK} {l : Launch} {hE : JIH} {t d : Nat} {P : List (Nat × Nat)} (F : JF K) (T : DQ K t hE d P) :
    Ct K l yJ4_clear wJ4_clear 1 [.ref d] hE (jRv (fun h' => DQ K t h' d [] ∧ Fr (fun x => x = t) hE h' ∧ hres h' = hres hE)) jNo := by
  obtain ⟨el, n, hd, f, c1, c2, hn, hh, hl, hf, hk⟩ := T
  have hn2 : n < 1000 := by omega
  have hm : (hd + P.length) % n < n := Nat.mod_lt _ (by omega)
  have hne : el ≠ d := c2.apE c1 (fun z => by cases z)
  refine st_J4_clear (ls := [some (.ref d)]) F rfl (body := fun M X => ?_)
  refine J.aload0 X dJ4_clear_0 ?_
  refine J.getf X dJ4_clear_1 fl_J4_3_J4 (c1.1) rfl ?_
  refine J.aload0 X dJ4_clear_4 ?_
  refine J.getf X dJ4_clear_5 fl_J4_24_J4 (c1.1) rfl ?_
  refine J.aload0 X dJ4_clear_8 ?_
  refine J.getf X dJ4_clear_9 fl_J4_20_J4 (c1.1) rfl ?_
  refine J.callSv X dJ4_clear_12 lk_J4_181 ce_J4_circularClear (dq_cc F c2.1 hn2 (Nat.le_of_lt hh) (Nat.le_of_lt hm)) (by decide) rfl (fun h' e _ => ?_)
  obtain ⟨f', rfl⟩ := e
  have c1' := c1.ne (jAR K 5 n f') hne
  have c2' := c2.same (jAR K 5 n f')
  refine J.aload0 X dJ4_clear_15 ?_
  refine J.aload0 X dJ4_clear_16 ?_
  refine J.iconst (v := nI 0) X dJ4_clear_17 (by decide) ?_
  refine J.dup_x1 X dJ4_clear_18 ?_
  refine J.fresh c1'.1 ?_
  refine J.putfS X dJ4_clear_19 (pl_J4_20_J4 _) (c1'.1) (Nat.le_of_ble_eq_true rfl) (rfl) (rfl) ?_
  refine J.putfS X dJ4_clear_22 (pl_J4_24_J4 _) (c1'.1) (Nat.le_of_ble_eq_true rfl) (rfl) (rfl) ?_
  refine J.vreturn X dJ4_clear_25 (jRv.of ?_)
  refine ⟨⟨el, n, 0, f', ?_, c2'.ne _ hne.symm, hn, by omega, by show 0 < n; omega, fun i hi => absurd hi (by simp), fun p hp => by cases hp⟩, (Fr.set (T := fun x => x = t) c2 rfl).tr (Fr.set c1' rfl), ?_⟩
  · show hc _ t d (jO 14 [.ref el, .int (nI 0), .int (nI ((0 + 0) % n))])
    rw [show (0 + 0) % n = 0 from Nat.zero_mod n]
    exact c1'.same _
  · refine (hres_setS c1' ?_).trans (hres_setS c2 ?_) <;> rfl
