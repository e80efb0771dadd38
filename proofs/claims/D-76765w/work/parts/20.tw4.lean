/-! the model: traces run, counts, copies -/
theorem hset_hset {h : JIH} {a : Nat} {e0 e1 e2 : va_E} (g : hget h a = some e0) : hset (hset h a e1) a e2 = hset h a e2 := by
  have h1 := hget_ge g
  have ht : htag (hset h a e1) a = htag h a := htag_set h a e1 a
  unfold hset at ht ⊢
  rw [if_pos h1] at ht ⊢
  rw [if_pos h1, if_pos (show (h.1, h.2.set (a - h.1) (htag h a, .inl e1)).1 ≤ a from h1), ht]
  show (h.1, (h.2.set (a - h.1) _).set (a - h.1) _) = _
  rw [List.set_set]
theorem hset_self {h : JIH} {a : Nat} {e : va_E} (g : hget h a = some e) : hset h a e = h := by
  obtain ⟨h1, t, h2⟩ := hget_eq g
  have h3 := (List.getElem?_eq_some_iff.mp h2).1
  have ht : htag h a = t := by unfold htag; rw [if_pos h1, h2]; rfl
  unfold hset
  rw [if_pos h1, ht]
  have : h.2.set (a - h.1) (t, .inl e) = h.2 := by
    apply List.ext_getElem?
    intro i
    by_cases hi : a - h.1 = i
    · subst hi; rw [List.getElem?_set_self h3, h2]
    · rw [List.getElem?_set_ne hi]
  rw [this]
/-- what a copy leaves -/
def tcp (i : Nat) (f1 f2 : Nat → Int32) : Nat → Int32 := fun j => if j < i then f1 j else f2 j
theorem tcp_0 (f1 f2 : Nat → Int32) : tcp 0 f1 f2 = f2 := by funext j; unfold tcp; rw [if_neg (by omega)]
theorem tcp_s (i : Nat) (f1 f2 : Nat → Int32) : upd (tcp i f1 f2) i (f1 i) = tcp (i + 1) f1 f2 := by
  funext j; rw [upd_at]; unfold tcp
  by_cases e : j = i
  · rw [if_pos e, if_pos (by omega), e]
  · rw [if_neg e]
    by_cases e2 : j < i
    · rw [if_pos e2, if_pos (by omega)]
    · rw [if_neg e2, if_neg (by omega)]
theorem tcp_lt {i j : Nat} (h : j < i) (f1 f2 : Nat → Int32) : tcp i f1 f2 j = f1 j := if_pos h
theorem WG.cp {f1 : Nat → Int32} (hw : WG f1) (f2 : Nat → Int32) : WG (tcp 3253 f1 f2) := hw.same fun k hk => tcp_lt (by omega) _ _
theorem tw_copy {K : JK} {l : Launch} {hE : JIH} (F : JF K) {a b : Nat} {f1 f2 : Nat → Int32} (h1 : hget hE a = some (jA K 0 3253 f1)) (h2 : hget hE b = some (jA K 0 3253 f2)) (hab : b ≠ a) :
    Ct K l yX5_copy wX5_copy 0 [.ref a, .ref b] hE (jRv (fun h' => h' = hset hE b (jA K 0 3253 (tcp 3253 f1 f2)))) jNo := by
  refine st_X5_copy (ls := [some (.ref a), some (.ref b), none]) F rfl (body := fun M X => ?_)
  have loop : ∀ n i, i + n = 3253 → J M (hset hE b (jA K 0 3253 (tcp i f1 f2))) 2 [some (.ref a), some (.ref b), some (.int (nI i))] [] := by
    intro n
    induction n with
    | zero =>
      intro i hi
      refine J.iload2 X dX5_copy_2 ?_
      refine J.sipush (v := nI 3253) X dX5_copy_3 (by decide) ?_
      refine J.icmp_geN (tgt := 21) X dX5_copy_6 (by decide) (by omega) (by omega) (fun _ => ?_) (fun q9 => absurd q9 (by omega))
      refine J.vreturn X dX5_copy_21 (jRv.of ?_)
      rw [show i = 3253 by omega]
    | succ n ih =>
      intro i hi
      refine J.iload2 X dX5_copy_2 ?_
      refine J.sipush (v := nI 3253) X dX5_copy_3 (by decide) ?_
      refine J.icmp_geN (tgt := 21) X dX5_copy_6 (by decide) (by omega) (by omega) (fun q9 => absurd q9 (by omega)) (fun _ => ?_)
      refine J.aload1 X dX5_copy_9 ?_
      refine J.iload2 X dX5_copy_10 ?_
      refine J.aload0 X dX5_copy_11 ?_
      refine J.iload2 X dX5_copy_12 ?_
      refine J.iald X dX5_copy_13 ((hget_set_ne _ hab).trans h1) (rfl) (by omega) ?_
      refine J.iast X dX5_copy_14 (hget_set_same _ h2) rfl (by omega) ?_
      rw [hset_hset h2, tcp_s]
      refine J.iinc2N (d := 1) X dX5_copy_15 (by decide) ?_
      refine J.goto (tgt := 2) X dX5_copy_18 (by decide) ?_
      exact ih (i + 1) (by omega)
  refine J.iconst (v := nI 0) X dX5_copy_0 (by decide) ?_
  refine J.istore2 X dX5_copy_1 ?_
  have := loop 3253 0 rfl
  rw [tcp_0, hset_self h2] at this
  exact this
theorem tw_cp_sv {K : JK} {l : Launch} {h : JIH} {A : Nat} {g sv kp go tx ac ky wt mn ts tz : Nat → Int32} {tp : Nat → Nat → Int64} {mv : Nat → Int64} {i0 i1 i2 i3 i4 i5 : Int32} (F : JF K) (T : TwR K h A g sv kp go tx ac ky wt mn ts tz tp mv i0 i1 i2 i3 i4 i5) : Ct K l yX5_copy wX5_copy 0 [.ref (A + 1), .ref (A + 2)] h (jRv (fun h' => TwS K h h' A g (tcp 3253 g sv) kp go tx ac ky wt mn ts tz tp mv i0 i1 i2 i3 i4 i5)) jNo :=
  (tw_copy F T.S.r_g T.S.r_sv (by omega)).weaken (fun _ _ z => ⟨z.1, by rw [z.2]; exact T.S.w_sv⟩) (fun _ _ _ z => z)
theorem tw_cp_g {K : JK} {l : Launch} {h : JIH} {A : Nat} {g sv kp go tx ac ky wt mn ts tz : Nat → Int32} {tp : Nat → Nat → Int64} {mv : Nat → Int64} {i0 i1 i2 i3 i4 i5 : Int32} (F : JF K) (T : TwR K h A g sv kp go tx ac ky wt mn ts tz tp mv i0 i1 i2 i3 i4 i5) : Ct K l yX5_copy wX5_copy 0 [.ref (A + 2), .ref (A + 1)] h (jRv (fun h' => TwS K h h' A (tcp 3253 sv g) sv kp go tx ac ky wt mn ts tz tp mv i0 i1 i2 i3 i4 i5)) jNo :=
  (tw_copy F T.S.r_sv T.S.r_g (by omega)).weaken (fun _ _ z => ⟨z.1, by rw [z.2]; exact T.S.w_g⟩) (fun _ _ _ z => z)
theorem tw_cp_kp {K : JK} {l : Launch} {h : JIH} {A : Nat} {g sv kp go tx ac ky wt mn ts tz : Nat → Int32} {tp : Nat → Nat → Int64} {mv : Nat → Int64} {i0 i1 i2 i3 i4 i5 : Int32} (F : JF K) (T : TwR K h A g sv kp go tx ac ky wt mn ts tz tp mv i0 i1 i2 i3 i4 i5) : Ct K l yX5_copy wX5_copy 0 [.ref (A + 1), .ref (A + 3)] h (jRv (fun h' => TwS K h h' A g sv (tcp 3253 g kp) go tx ac ky wt mn ts tz tp mv i0 i1 i2 i3 i4 i5)) jNo :=
  (tw_copy F T.S.r_g T.S.r_kp (by omega)).weaken (fun _ _ z => ⟨z.1, by rw [z.2]; exact T.S.w_kp⟩) (fun _ _ _ z => z)
theorem tw_cp_kg {K : JK} {l : Launch} {h : JIH} {A : Nat} {g sv kp go tx ac ky wt mn ts tz : Nat → Int32} {tp : Nat → Nat → Int64} {mv : Nat → Int64} {i0 i1 i2 i3 i4 i5 : Int32} (F : JF K) (T : TwR K h A g sv kp go tx ac ky wt mn ts tz tp mv i0 i1 i2 i3 i4 i5) : Ct K l yX5_copy wX5_copy 0 [.ref (A + 3), .ref (A + 1)] h (jRv (fun h' => TwS K h h' A (tcp 3253 kp g) sv kp go tx ac ky wt mn ts tz tp mv i0 i1 i2 i3 i4 i5)) jNo :=
  (tw_copy F T.S.r_kp T.S.r_g (by omega)).weaken (fun _ _ z => ⟨z.1, by rw [z.2]; exact T.S.w_g⟩) (fun _ _ _ z => z)
/-- how many keys below i are at q -/
def tmany (g : Nat → Int32) (q : Nat) : Nat → Nat
  | 0 => 0
  | i + 1 => tmany g q i + (if wh g i = q then 1 else 0)
theorem tmany_le (g : Nat → Int32) (q : Nat) : ∀ i, tmany g q i ≤ i
  | 0 => Nat.le_refl 0
  | i + 1 => by have := tmany_le g q i; unfold tmany; split <;> omega
theorem tw_manyAt {K : JK} {l : Launch} {h : JIH} {A : Nat} {g sv kp go tx ac ky wt mn ts tz : Nat → Int32} {tp : Nat → Nat → Int64} {mv : Nat → Int64} {i0 i1 i2 i3 i4 i5 : Int32} (F : JF K) (T : TwR K h A g sv kp go tx ac ky wt mn ts tz tp mv i0 i1 i2 i3 i4 i5) (hw : WG g) {q : Nat} (hq : q ≤ 4) :
    Ct K l yX5_manyAt wX5_manyAt 0 [.ref A, .int (nI q)] h (jRi (fun r h' => r = nI (tmany g q 400) ∧ h = h')) jNo := by
  refine st_X5_manyAt (ls := [some (.ref A), some (.int (nI q)), none, none]) F rfl (body := fun M X => ?_)
  have S := T.S
  have loop : ∀ n i, i + n = 400 → J M h 4 [some (.ref A), some (.int (nI q)), some (.int (nI (tmany g q i))), some (.int (nI i))] [] := by
    intro n
    induction n with
    | zero =>
      intro i hi
      refine J.iload3 X dX5_manyAt_4 ?_
      refine J.sipush (v := nI 400) X dX5_manyAt_5 (by decide) ?_
      refine J.icmp_geN (tgt := 37) X dX5_manyAt_8 (by decide) (by omega) (by omega) (fun _ => ?_) (fun q9 => absurd q9 (by omega))
      refine J.iload2 X dX5_manyAt_37 ?_
      refine J.zreturn X dX5_manyAt_38 (rfl) (jRi.of ?_)
      exact ⟨by rw [show i = 400 by omega], rfl⟩
    | succ n ih =>
      intro i hi
      have hi4 : i < 400 := by omega
      have hwi := (hw i hi4).1
      have nxt := ih (i + 1) (by omega)
      refine J.iload3 X dX5_manyAt_4 ?_
      refine J.sipush (v := nI 400) X dX5_manyAt_5 (by decide) ?_
      refine J.icmp_geN (tgt := 37) X dX5_manyAt_8 (by decide) (by omega) (by omega) (fun q9 => absurd q9 (by omega)) (fun _ => ?_)
      refine J.iload2 X dX5_manyAt_11 ?_
      refine J.aload0 X dX5_manyAt_12 ?_
      refine J.getf X dX5_manyAt_13 fl_X5_11_X5 (S.o) rfl ?_
      refine J.iconst (v := nI 0) X dX5_manyAt_16 (by decide) ?_
      refine J.iload3 X dX5_manyAt_17 ?_
      refine J.iadd0N X dX5_manyAt_18 ?_
      refine J.iald X dX5_manyAt_19 (S.r_g) (rfl) (by omega) ?_
      refine J.topi (y := nI (wh g i)) ((hw i hi4).2) ?_
      refine J.iload1 X dX5_manyAt_20 ?_
      refine J.icmp_neN (tgt := 28) X dX5_manyAt_21 (by decide) (by omega) (by omega) (fun c2 => ?_) (fun c2 => ?_)
      · skip
        refine J.iconst (v := nI 0) X dX5_manyAt_28 (by decide) ?_
        refine J.iaddN X dX5_manyAt_29 ?_
        refine J.istore2 X dX5_manyAt_30 ?_
        refine J.iinc3N (d := 1) X dX5_manyAt_31 (by decide) ?_
        refine J.goto (tgt := 4) X dX5_manyAt_34 (by decide) ?_
        rw [show tmany g q (i + 1) = tmany g q i + 0 by show _ + _ = _; rw [if_neg c2]] at nxt
        exact nxt
      · skip
        refine J.iconst (v := nI 1) X dX5_manyAt_24 (by decide) ?_
        refine J.goto (tgt := 29) X dX5_manyAt_25 (by decide) ?_
        refine J.iaddN X dX5_manyAt_29 ?_
        refine J.istore2 X dX5_manyAt_30 ?_
        refine J.iinc3N (d := 1) X dX5_manyAt_31 (by decide) ?_
        refine J.goto (tgt := 4) X dX5_manyAt_34 (by decide) ?_
        rw [show tmany g q (i + 1) = tmany g q i + 1 by show _ + _ = _; rw [if_pos c2]] at nxt
        exact nxt
  refine J.iconst (v := nI 0) X dX5_manyAt_0 (by decide) ?_
  refine J.istore2 X dX5_manyAt_1 ?_
  refine J.iconst (v := nI 0) X dX5_manyAt_2 (by decide) ?_
  refine J.istore3 X dX5_manyAt_3 ?_
  exact loop 400 0 rfl
/-- how many keys below i are where k is, and older -/
def tplace (g : Nat → Int32) (k : Nat) : Nat → Nat
  | 0 => 0
  | i + 1 => tplace g k i + (if wh g i = wh g k ∧ g (2800 + i) < g (2800 + k) then 1 else 0)
theorem tplace_le (g : Nat → Int32) (k : Nat) : ∀ i, tplace g k i ≤ i
  | 0 => Nat.le_refl 0
  | i + 1 => by have := tplace_le g k i; unfold tplace; split <;> omega
theorem tw_placeOf {K : JK} {l : Launch} {h : JIH} {A : Nat} {g sv kp go tx ac ky wt mn ts tz : Nat → Int32} {tp : Nat → Nat → Int64} {mv : Nat → Int64} {i0 i1 i2 i3 i4 i5 : Int32} (F : JF K) (T : TwR K h A g sv kp go tx ac ky wt mn ts tz tp mv i0 i1 i2 i3 i4 i5) (hw : WG g) {k : Nat} (hk : k < 400) :
    Ct K l yX5_placeOf wX5_placeOf 0 [.ref A, .int (nI k)] h (jRi (fun r h' => r = nI (tplace g k 400) ∧ h = h')) jNo := by
  refine st_X5_placeOf (ls := [some (.ref A), some (.int (nI k)), none, none]) F rfl (body := fun M X => ?_)
  have S := T.S
  have hwk := (hw k hk).1
  have loop : ∀ n i, i + n = 400 → J M h 4 [some (.ref A), some (.int (nI k)), some (.int (nI (tplace g k i))), some (.int (nI i))] [] := by
    intro n
    induction n with
    | zero =>
      intro i hi
      refine J.iload3 X dX5_placeOf_4 ?_
      refine J.sipush (v := nI 400) X dX5_placeOf_5 (by decide) ?_
      refine J.icmp_geN (tgt := 67) X dX5_placeOf_8 (by decide) (by omega) (by omega) (fun _ => ?_) (fun q9 => absurd q9 (by omega))
      refine J.iload2 X dX5_placeOf_67 ?_
      refine J.zreturn X dX5_placeOf_68 (rfl) (jRi.of ?_)
      exact ⟨by rw [show i = 400 by omega], rfl⟩
    | succ n ih =>
      intro i hi
      have hi4 : i < 400 := by omega
      have hwi := (hw i hi4).1
      have nxt := ih (i + 1) (by omega)
      refine J.iload3 X dX5_placeOf_4 ?_
      refine J.sipush (v := nI 400) X dX5_placeOf_5 (by decide) ?_
      refine J.icmp_geN (tgt := 67) X dX5_placeOf_8 (by decide) (by omega) (by omega) (fun q9 => absurd q9 (by omega)) (fun _ => ?_)
      refine J.iload2 X dX5_placeOf_11 ?_
      refine J.aload0 X dX5_placeOf_12 ?_
      refine J.getf X dX5_placeOf_13 fl_X5_11_X5 (S.o) rfl ?_
      refine J.iconst (v := nI 0) X dX5_placeOf_16 (by decide) ?_
      refine J.iload3 X dX5_placeOf_17 ?_
      refine J.iadd0N X dX5_placeOf_18 ?_
      refine J.iald X dX5_placeOf_19 (S.r_g) (rfl) (by omega) ?_
      refine J.topi (y := nI (wh g i)) ((hw i hi4).2) ?_
      refine J.aload0 X dX5_placeOf_20 ?_
      refine J.getf X dX5_placeOf_21 fl_X5_11_X5 (S.o) rfl ?_
      refine J.iconst (v := nI 0) X dX5_placeOf_24 (by decide) ?_
      refine J.iload1 X dX5_placeOf_25 ?_
      refine J.iadd0N X dX5_placeOf_26 ?_
      refine J.iald X dX5_placeOf_27 (S.r_g) (rfl) (by omega) ?_
      refine J.topi (y := nI (wh g k)) ((hw k hk).2) ?_
      refine J.icmp_neN (tgt := 58) X dX5_placeOf_28 (by decide) (by omega) (by omega) (fun c2 => ?_) (fun c2 => ?_)
      · skip
        refine J.iconst (v := nI 0) X dX5_placeOf_58 (by decide) ?_
        refine J.iaddN X dX5_placeOf_59 ?_
        refine J.istore2 X dX5_placeOf_60 ?_
        refine J.iinc3N (d := 1) X dX5_placeOf_61 (by decide) ?_
        refine J.goto (tgt := 4) X dX5_placeOf_64 (by decide) ?_
        rw [show tplace g k (i + 1) = tplace g k i + 0 by show _ + _ = _; rw [if_neg (fun z => c2 z.1)]] at nxt
        exact nxt
      · skip
        refine J.aload0 X dX5_placeOf_31 ?_
        refine J.getf X dX5_placeOf_32 fl_X5_11_X5 (S.o) rfl ?_
        refine J.sipush (v := nI 2800) X dX5_placeOf_35 (by decide) ?_
        refine J.iload3 X dX5_placeOf_38 ?_
        refine J.iaddN X dX5_placeOf_39 ?_
        refine J.iald X dX5_placeOf_40 (S.r_g) (rfl) (by omega) ?_
        refine J.aload0 X dX5_placeOf_41 ?_
        refine J.getf X dX5_placeOf_42 fl_X5_11_X5 (S.o) rfl ?_
        refine J.sipush (v := nI 2800) X dX5_placeOf_45 (by decide) ?_
        refine J.iload1 X dX5_placeOf_48 ?_
        refine J.iaddN X dX5_placeOf_49 ?_
        refine J.iald X dX5_placeOf_50 (S.r_g) (rfl) (by omega) ?_
        refine J.at (pc' := 51) rfl ?_
        refine J.icmp_ge (tgt := 58) X dX5_placeOf_51 (by decide) (fun c3 => ?_) (fun c3 => ?_)
        · skip
          refine J.iconst (v := nI 0) X dX5_placeOf_58 (by decide) ?_
          refine J.iaddN X dX5_placeOf_59 ?_
          refine J.istore2 X dX5_placeOf_60 ?_
          refine J.iinc3N (d := 1) X dX5_placeOf_61 (by decide) ?_
          refine J.goto (tgt := 4) X dX5_placeOf_64 (by decide) ?_
          rw [show tplace g k (i + 1) = tplace g k i + 0 by show _ + _ = _; rw [if_neg (fun z => absurd z.2 (Int32.not_lt.mpr c3))]] at nxt
          exact nxt
        · skip
          refine J.iconst (v := nI 1) X dX5_placeOf_54 (by decide) ?_
          refine J.goto (tgt := 59) X dX5_placeOf_55 (by decide) ?_
          refine J.iaddN X dX5_placeOf_59 ?_
          refine J.istore2 X dX5_placeOf_60 ?_
          refine J.iinc3N (d := 1) X dX5_placeOf_61 (by decide) ?_
          refine J.goto (tgt := 4) X dX5_placeOf_64 (by decide) ?_
          rw [show tplace g k (i + 1) = tplace g k i + 1 by show _ + _ = _; rw [if_pos ⟨c2, Int32.not_le.mp c3⟩]] at nxt
          exact nxt
  refine J.iconst (v := nI 0) X dX5_placeOf_0 (by decide) ?_
  refine J.istore2 X dX5_placeOf_1 ?_
  refine J.iconst (v := nI 0) X dX5_placeOf_2 (by decide) ?_
  refine J.istore3 X dX5_placeOf_3 ?_
  exact loop 400 0 rfl
/-- the key at q whose place is p, from i on, n keys -/
def tkeyAt (g : Nat → Int32) (q : Nat) (p : Int32) : Nat → Nat → Int32
  | 0, _ => -5
  | n + 1, i => if wh g i = q ∧ nI (tplace g i 400) = p then nI i else tkeyAt g q p n (i + 1)
theorem tw_keyAt {K : JK} {l : Launch} {h : JIH} {A : Nat} {g sv kp go tx ac ky wt mn ts tz : Nat → Int32} {tp : Nat → Nat → Int64} {mv : Nat → Int64} {i0 i1 i2 i3 i4 i5 : Int32} (F : JF K) (T : TwR K h A g sv kp go tx ac ky wt mn ts tz tp mv i0 i1 i2 i3 i4 i5) (hw : WG g) {q : Nat} (hq : q ≤ 4) (p : Int32) :
    Ct K l yX5_keyAt wX5_keyAt 1 [.ref A, .int (nI q), .int p] h (jRi (fun r h' => r = tkeyAt g q p 400 0 ∧ h = h')) jNo := by
  refine st_X5_keyAt (ls := [some (.ref A), some (.int (nI q)), some (.int p), none]) F rfl (body := fun M X => ?_)
  have S := T.S
  have loop : ∀ n i, i + n = 400 → tkeyAt g q p n i = tkeyAt g q p 400 0 → J M h 2 [some (.ref A), some (.int (nI q)), some (.int p), some (.int (nI i))] [] := by
    intro n
    induction n with
    | zero =>
      intro i hi e
      refine J.iload3 X dX5_keyAt_2 ?_
      refine J.sipush (v := nI 400) X dX5_keyAt_3 (by decide) ?_
      refine J.icmp_geN (tgt := 38) X dX5_keyAt_6 (by decide) (by omega) (by omega) (fun _ => ?_) (fun q9 => absurd q9 (by omega))
      refine J.bipush (v := -5) X dX5_keyAt_38 (by decide) ?_
      refine J.zreturn X dX5_keyAt_40 (rfl) (jRi.of ?_)
      exact ⟨e, rfl⟩
    | succ n ih =>
      intro i hi e
      have hi4 : i < 400 := by omega
      have hwi := (hw i hi4).1
      unfold tkeyAt at e
      refine J.iload3 X dX5_keyAt_2 ?_
      refine J.sipush (v := nI 400) X dX5_keyAt_3 (by decide) ?_
      refine J.icmp_geN (tgt := 38) X dX5_keyAt_6 (by decide) (by omega) (by omega) (fun q9 => absurd q9 (by omega)) (fun _ => ?_)
      refine J.aload0 X dX5_keyAt_9 ?_
      refine J.getf X dX5_keyAt_10 fl_X5_11_X5 (S.o) rfl ?_
      refine J.iconst (v := nI 0) X dX5_keyAt_13 (by decide) ?_
      refine J.iload3 X dX5_keyAt_14 ?_
      refine J.iadd0N X dX5_keyAt_15 ?_
      refine J.iald X dX5_keyAt_16 (S.r_g) (rfl) (by omega) ?_
      refine J.topi (y := nI (wh g i)) ((hw i hi4).2) ?_
      refine J.iload1 X dX5_keyAt_17 ?_
      refine J.icmp_neN (tgt := 32) X dX5_keyAt_18 (by decide) (by omega) (by omega) (fun c2 => ?_) (fun c2 => ?_)
      · skip
        rw [if_neg (fun z => c2 z.1)] at e
        refine J.iinc3N (d := 1) X dX5_keyAt_32 (by decide) ?_
        refine J.goto (tgt := 2) X dX5_keyAt_35 (by decide) ?_
        exact ih _ (by omega) e
      · skip
        refine J.aload0 X dX5_keyAt_21 ?_
        refine J.iload3 X dX5_keyAt_22 ?_
        refine J.callVi X dX5_keyAt_23 lk_X5_113_X5 ce_X5_placeOf (tw_placeOf F S.1 hw hi4) (by decide) rfl (S.o) rfl (fun r h' z _ => ?_)
        obtain ⟨rfl, rfl⟩ := z
        refine J.iload2 X dX5_keyAt_26 ?_
        refine J.icmp_ne (tgt := 32) X dX5_keyAt_27 (by decide) (fun c3 => ?_) (fun c3 => ?_)
        · skip
          rw [if_neg (fun z => c3 z.2)] at e
          refine J.iinc3N (d := 1) X dX5_keyAt_32 (by decide) ?_
          refine J.goto (tgt := 2) X dX5_keyAt_35 (by decide) ?_
          exact ih _ (by omega) e
        · skip
          rw [if_pos ⟨c2, c3⟩] at e
          refine J.iload3 X dX5_keyAt_30 ?_
          refine J.zreturn X dX5_keyAt_31 (rfl) (jRi.of ?_)
          exact ⟨e, rfl⟩
  refine J.iconst (v := nI 0) X dX5_keyAt_0 (by decide) ?_
  refine J.istore3 X dX5_keyAt_1 ?_
  exact loop 400 0 rfl rfl
/-- one clause of a trace -/
def tclR (f : Nat) (g go : Nat → Int32) (n : Nat) (a : Int32) (k : Nat) (x : Int32) (g' go' : Nat → Int32) (n' : Nat) : Prop :=
  (a = nI 103 ∧ ∃ r, tgetsR f g go n k r g' go' n') ∨ (a ≠ nI 103 ∧ a = nI 120 ∧ g' = tgoes g k 0 ∧ go' = go ∧ n' = n) ∨
  (a ≠ nI 103 ∧ a ≠ nI 120 ∧ g 3200 < x ∧ g' = g ∧ go' = go ∧ n' = n) ∨ (a ≠ nI 103 ∧ a ≠ nI 120 ∧ x ≤ g 3200 ∧ ∃ r, tputR f g go n k (nI 0) x (nI 1) r g' go' n')
def trunsR (f : Nat) (ac ky wt : Nat → Int32) : Nat → Nat → (Nat → Int32) → (Nat → Int32) → Nat → (Nat → Int32) → (Nat → Int32) → Nat → Prop
  | 0, _, g, go, n, g', go', n' => g' = g ∧ go' = go ∧ n' = n
  | m + 1, i, g, go, n, g', go', n' => ∃ k g1 go1 n1, k < 400 ∧ ky i = nI k ∧ tclR f g go n (ac i) k (wt i) g1 go1 n1 ∧ trunsR f ac ky wt m (i + 1) g1 go1 n1 g' go' n'
theorem tclR.WG {f : Nat} {g go : Nat → Int32} {n k : Nat} {a x : Int32} {g' go' : Nat → Int32} {n' : Nat} (h : tclR f g go n a k x g' go' n') (hw : WG g) (hn : n ≤ 400) (hk : k < 400) : WG g' ∧ n' ≤ 400 := by
  rcases h with ⟨-, r, h⟩ | ⟨-, -, rfl, rfl, rfl⟩ | ⟨-, -, -, rfl, rfl, rfl⟩ | ⟨-, -, -, r, h⟩
  · exact h.WG hw hn hk
  · exact ⟨hw.goes hk (by omega), hn⟩
  · exact ⟨hw, hn⟩
  · exact h.WG hw hn hk
theorem trunsR.WG {f : Nat} {ac ky wt : Nat → Int32} : ∀ {m i : Nat} {g go : Nat → Int32} {n : Nat} {g' go' : Nat → Int32} {n' : Nat}, trunsR f ac ky wt m i g go n g' go' n' → WG g → n ≤ 400 → WG g' ∧ n' ≤ 400
  | 0, _, _, _, _, _, _, _, h, hw, hn => by obtain ⟨rfl, rfl, rfl⟩ := h; exact ⟨hw, hn⟩
  | m + 1, _, _, _, _, _, _, _, h, hw, hn => by
    obtain ⟨k, g1, go1, n1, hk, -, h1, h2⟩ := h
    have a := h1.WG hw hn hk
    exact h2.WG a.1 a.2
theorem tw_runs {K : JK} {l : Launch} {hE : JIH} {A : Nat} {g sv kp go tx ac ky wt mn ts tz : Nat → Int32} {tp : Nat → Nat → Int64} {mv : Nat → Int64} {i0 i2 i3 i4 i5 : Int32} (F : JF K) {n : Nat} (T : TwR K hE A g sv kp go tx ac ky wt mn ts tz tp mv i0 (nI n) i2 i3 i4 i5) (hw : WG g) (hn : n ≤ 400) {t m : Nat} (ht : t < 6) (hm : mn t = nI m) (hm2 : m ≤ 20) {f : Nat} {g' go' : Nat → Int32} {n' : Nat} (hf : trunsR f ac ky wt m (t * 20) g go n g' go' n') :
    Ct K l yX5_runs wX5_runs 5 [.ref A, .int (nI t)] hE (jRi (fun r h' => r = g' 3209 - g 3209 ∧ TwS K hE h' A (g') sv kp (go') tx ac ky wt mn ts tz tp mv i0 (nI n') i2 i3 i4 i5)) jNo := by
  refine st_X5_runs (ls := [some (.ref A), some (.int (nI t)), none, none]) F rfl (body := fun M X => ?_)
  have S := T.S
  have loop : ∀ (m' i : Nat) (g1 go : Nat → Int32) (n : Nat) (h1 : JIH), i + m' = t * 20 + m → TwS K hE h1 A (g1) sv kp go tx ac ky wt mn ts tz tp mv i0 (nI n) i2 i3 i4 i5 → WG g1 → n ≤ 400 → trunsR f ac ky wt m' i g1 go n g' go' n' → J M h1 14 [some (.ref A), some (.int (nI t)), some (.int (g 3209)), some (.int (nI i))] [] := by
    intro m'
    induction m' with
    | zero =>
      intro i g1 go n h1 hi S hw hn hf
      obtain ⟨rfl, rfl, rfl⟩ := hf
      refine J.iload3 X dX5_runs_14 ?_
      refine J.iload1 X dX5_runs_15 ?_
      refine J.bipush (v := nI 20) X dX5_runs_16 (by decide) ?_
      refine J.imulN X dX5_runs_18 ?_
      refine J.aload0 X dX5_runs_19 ?_
      refine J.getf X dX5_runs_20 fl_X5_36_X5 (S.o) rfl ?_
      refine J.iload1 X dX5_runs_23 ?_
      refine J.iald X dX5_runs_24 (S.r_mn) (rfl) (by omega) ?_
      refine J.topi (y := nI (m)) (hm) ?_
      refine J.iaddN X dX5_runs_25 ?_
      refine J.icmp_geN (tgt := 121) X dX5_runs_26 (by decide) (by omega) (by omega) (fun _ => ?_) (fun q9 => absurd q9 (by omega))
      refine J.aload0 X dX5_runs_121 ?_
      refine J.getf X dX5_runs_122 fl_X5_11_X5 (S.o) rfl ?_
      refine J.sipush (v := nI 3209) X dX5_runs_125 (by decide) ?_
      refine J.iald X dX5_runs_128 (S.r_g) (rfl) (by omega) ?_
      refine J.iload2 X dX5_runs_129 ?_
      refine J.isub X dX5_runs_130 ?_
      refine J.zreturn X dX5_runs_131 (rfl) (jRi.of ?_)
      exact ⟨rfl, S⟩
    | succ m' ih =>
      intro i g1 go n h1 hi S hw hn hf
      obtain ⟨k, g2, go2, n2, hk, hky, hc, hf⟩ := hf
      have hi2 : i < 120 := by omega
      have hw2 := hc.WG hw hn hk
      refine J.iload3 X dX5_runs_14 ?_
      refine J.iload1 X dX5_runs_15 ?_
      refine J.bipush (v := nI 20) X dX5_runs_16 (by decide) ?_
      refine J.imulN X dX5_runs_18 ?_
      refine J.aload0 X dX5_runs_19 ?_
      refine J.getf X dX5_runs_20 fl_X5_36_X5 (S.o) rfl ?_
      refine J.iload1 X dX5_runs_23 ?_
      refine J.iald X dX5_runs_24 (S.r_mn) (rfl) (by omega) ?_
      refine J.topi (y := nI (m)) (hm) ?_
      refine J.iaddN X dX5_runs_25 ?_
      refine J.icmp_geN (tgt := 121) X dX5_runs_26 (by decide) (by omega) (by omega) (fun q9 => absurd q9 (by omega)) (fun _ => ?_)
      have nxt : ∀ h1 : JIH, TwS K hE h1 A (g2) sv kp (go2) tx ac ky wt mn ts tz tp mv i0 (nI n2) i2 i3 i4 i5 → J M h1 115 [some (.ref A), some (.int (nI t)), some (.int (g 3209)), some (.int (nI i))] [] := by
        intro h1 S
        refine J.iinc3N (d := 1) X dX5_runs_115 (by decide) ?_
        refine J.goto (tgt := 14) X dX5_runs_118 (by decide) ?_
        exact ih (i + 1) _ _ _ _ (by omega) S hw2.1 hw2.2 hf
      refine J.aload0 X dX5_runs_29 ?_
      refine J.getf X dX5_runs_30 fl_X5_27_X5 (S.o) rfl ?_
      refine J.iload3 X dX5_runs_33 ?_
      refine J.iald X dX5_runs_34 (S.r_ac) (rfl) (by omega) ?_
      refine J.bipush (v := nI 103) X dX5_runs_35 (by decide) ?_
      refine J.icmp_ne (tgt := 54) X dX5_runs_37 (by decide) (fun c1 => ?_) (fun c1 => ?_)
      · skip
        refine J.aload0 X dX5_runs_54 ?_
        refine J.getf X dX5_runs_55 fl_X5_27_X5 (S.o) rfl ?_
        refine J.iload3 X dX5_runs_58 ?_
        refine J.iald X dX5_runs_59 (S.r_ac) (rfl) (by omega) ?_
        refine J.bipush (v := nI 120) X dX5_runs_60 (by decide) ?_
        refine J.icmp_ne (tgt := 79) X dX5_runs_62 (by decide) (fun c2 => ?_) (fun c2 => ?_)
        · skip
          refine J.aload0 X dX5_runs_79 ?_
          refine J.getf X dX5_runs_80 fl_X5_33_X5 (S.o) rfl ?_
          refine J.iload3 X dX5_runs_83 ?_
          refine J.iald X dX5_runs_84 (S.r_wt) (rfl) (by omega) ?_
          refine J.aload0 X dX5_runs_85 ?_
          refine J.getf X dX5_runs_86 fl_X5_11_X5 (S.o) rfl ?_
          refine J.sipush (v := nI 3200) X dX5_runs_89 (by decide) ?_
          refine J.iald X dX5_runs_92 (S.r_g) (rfl) (by omega) ?_
          refine J.icmp_gt (tgt := 115) X dX5_runs_93 (by decide) (fun c3 => ?_) (fun c3 => ?_)
          · skip
            rcases hc with ⟨e, -⟩ | ⟨-, e, -⟩ | ⟨-, -, -, rfl, rfl, rfl⟩ | ⟨-, -, e, -⟩
            · exact absurd e c1
            · exact absurd e c2
            · exact nxt _ S
            · exact absurd e (Int32.not_le.mpr c3)
          · skip
            rcases hc with ⟨e, -⟩ | ⟨-, e, -⟩ | ⟨-, -, e, -⟩ | ⟨-, -, -, r, e⟩
            · exact absurd e c1
            · exact absurd e c2
            · exact absurd e c3
            · refine J.aload0 X dX5_runs_96 ?_
              refine J.aload0 X dX5_runs_97 ?_
              refine J.getf X dX5_runs_98 fl_X5_30_X5 (S.o) rfl ?_
              refine J.iload3 X dX5_runs_101 ?_
              refine J.iald X dX5_runs_102 (S.r_ky) (rfl) (by omega) ?_
              refine J.topi (y := nI (k)) (hky) ?_
              refine J.iconst (v := nI 0) X dX5_runs_103 (by decide) ?_
              refine J.aload0 X dX5_runs_104 ?_
              refine J.getf X dX5_runs_105 fl_X5_33_X5 (S.o) rfl ?_
              refine J.iload3 X dX5_runs_108 ?_
              refine J.iald X dX5_runs_109 (S.r_wt) (rfl) (by omega) ?_
              refine J.iconst (v := nI 1) X dX5_runs_110 (by decide) ?_
              refine J.callVi X dX5_runs_111 lk_X5_100_X5 ce_X5_putIn (tw_putIn F S.1 hw hn hk (nI 0) (wt i) (nI 1) e) (by decide) rfl (S.o) rfl (fun r h' z _ => ?_)
              replace S := S.tr z.2
              refine J.pop X dX5_runs_114 ?_
              exact nxt _ S
        · skip
          rcases hc with ⟨e, -⟩ | ⟨-, -, rfl, rfl, rfl⟩ | ⟨-, e, -⟩ | ⟨-, e, -⟩
          · exact absurd e c1
          · refine J.aload0 X dX5_runs_65 ?_
            refine J.aload0 X dX5_runs_66 ?_
            refine J.getf X dX5_runs_67 fl_X5_30_X5 (S.o) rfl ?_
            refine J.iload3 X dX5_runs_70 ?_
            refine J.iald X dX5_runs_71 (S.r_ky) (rfl) (by omega) ?_
            refine J.topi (y := nI (k)) (hky) ?_
            refine J.callVi X dX5_runs_72 lk_X5_109_X5 ce_X5_drops (tw_drops F S.1 hw hk) (by decide) rfl (S.o) rfl (fun r h' z _ => ?_)
            replace S := S.tr z.2
            refine J.pop X dX5_runs_75 ?_
            refine J.goto (tgt := 115) X dX5_runs_76 (by decide) ?_
            exact nxt _ S
          · exact absurd c2 e
          · exact absurd c2 e
      · skip
        rcases hc with ⟨-, r, e⟩ | ⟨e, -⟩ | ⟨e, -⟩ | ⟨e, -⟩
        · refine J.aload0 X dX5_runs_40 ?_
          refine J.aload0 X dX5_runs_41 ?_
          refine J.getf X dX5_runs_42 fl_X5_30_X5 (S.o) rfl ?_
          refine J.iload3 X dX5_runs_45 ?_
          refine J.iald X dX5_runs_46 (S.r_ky) (rfl) (by omega) ?_
          refine J.topi (y := nI (k)) (hky) ?_
          refine J.callVi X dX5_runs_47 lk_X5_106_X5 ce_X5_gets (tw_gets F S.1 hw hn hk e) (by decide) rfl (S.o) rfl (fun r h' z _ => ?_)
          replace S := S.tr z.2
          refine J.pop X dX5_runs_50 ?_
          refine J.goto (tgt := 115) X dX5_runs_51 (by decide) ?_
          exact nxt _ S
        · exact absurd c1 e
        · exact absurd c1 e
        · exact absurd c1 e
  refine J.aload0 X dX5_runs_0 ?_
  refine J.getf X dX5_runs_1 fl_X5_11_X5 (S.o) rfl ?_
  refine J.sipush (v := nI 3209) X dX5_runs_4 (by decide) ?_
  refine J.iald X dX5_runs_7 (S.r_g) (rfl) (by omega) ?_
  refine J.istore2 X dX5_runs_8 ?_
  refine J.iload1 X dX5_runs_9 ?_
  refine J.bipush (v := nI 20) X dX5_runs_10 (by decide) ?_
  refine J.imulN X dX5_runs_12 ?_
  refine J.istore3 X dX5_runs_13 ?_
  exact loop m (t * 20) g go n hE rfl S hw hn hf
