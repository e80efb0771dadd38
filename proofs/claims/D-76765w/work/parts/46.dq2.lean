/-! ArrayDeque: what comes and goes -/
theorem dq_w1 {n hd len : Nat} (hn : n = 17 ∨ n = 36) (hh : hd < n) (hl : len < n) : (if hd = 0 then n - 1 else hd - 1) < n ∧ ((if hd = 0 then n - 1 else hd - 1) + (len + 1)) % n = (hd + len) % n ∧ (len + 1 < n → (if hd = 0 then n - 1 else hd - 1) ≠ (hd + len) % n) ∧ (len + 1 = n → (if hd = 0 then n - 1 else hd - 1) = (hd + len) % n) := by
  rcases hn with rfl | rfl <;> split <;> refine ⟨?_, ?_, ?_, ?_⟩ <;> omega
theorem dq_w2 {n hd len : Nat} (hn : n = 17 ∨ n = 36) (hh : hd < n) (hl : len < n) : (if (hd + len) % n + 1 = n then 0 else (hd + len) % n + 1) = (hd + (len + 1)) % n ∧ (len + 1 < n → hd ≠ (hd + (len + 1)) % n) ∧ (len + 1 = n → hd = (hd + (len + 1)) % n) ∧ ∀ i, i < len → (hd + i) % n ≠ (hd + len) % n := by
  rcases hn with rfl | rfl <;> refine ⟨?_, ?_, ?_, fun i hi => ?_⟩ <;> (try split) <;> omega
theorem dq_init {K : JK} {l : Launch} {hE : JIH} (F : JF K) {t d : Nat} (hf : hc hE t d (jO 14 [.null, .int 0, .int 0])) (hr : hres hE + 25 ≤ jRL) :
    Ct K l yJ4_init wJ4_init 2 [.ref d] hE (jRv (fun h' => DQ K t h' d [] ∧ Fr (fun x => x = t) hE h' ∧ hres h' = hres hE + 25)) jNo := by
  refine st_J4_init (ls := [some (.ref d)]) F rfl (body := fun M X => ?_)
  refine J.aload0 X dJ4_init_0 ?_
  refine J.callI X dJ4_init_1 lk_J4_42 ce_J3_init (ac_init F d) (by decide) rfl (fun h' e _ => ?_)
  subst e
  refine J.aload0 X dJ4_init_4 ?_
  refine J.bipush (v := nI 17) X dJ4_init_5 (by decide) ?_
  refine J.newR (tt := 5) (n := 17) t X dJ4_init_7 cl_J4_47 q235 rfl rfl (by decide) hr ?_
  have c1 := hf.push t (jAR K 5 17 (fun _ => none))
  have c2 := hc.new hE t (jAR K 5 17 (fun _ => none))
  refine J.fresh c1.1 ?_
  refine J.putfS X dJ4_init_10 (pl_J4_3_J4 _) (c1.1) (Nat.le_of_ble_eq_true rfl) (rfl) (rfl) ?_
  refine J.vreturn X dJ4_init_13 (jRv.of ?_)
  have hne : d ≠ hnew hE := hget_ne_new hf.1
  refine ⟨⟨hnew hE, 17, 0, fun _ => none, c1.same _, c2.ne _ hne, Or.inl rfl, by decide, by decide, fun i hi => absurd hi (by simp), fun p hp => by cases hp⟩, (Fr.push _ _ _ _).tr (Fr.set c1 rfl), ?_⟩
  refine (hres_setS c1 ?_).trans ?_
  · rfl
  · rw [hres_push]; rfl
theorem dq_addFirst {K : JK} {l : Launch} {hE : JIH} {t d a k : Nat} {P : List (Nat × Nat)} (F : JF K) (T : DQ K t hE d P) (g : IsKey hE a k) (hP : P.length ≤ 20) (ht1 : t ≠ 1) (hr : hres hE + 44 ≤ jRL) :
    Ct K l yJ4_addFirst wJ4_addFirst 5 [.ref d, .ref a] hE (jRv (fun h' => DQ K t h' d ((a, k) :: P) ∧ Fr (fun x => x = t) hE h' ∧ hres h' ≤ hres hE + 44)) jNo := by
  obtain ⟨el, n, hd, f, c1, c2, hn, hh, hl, hf, hk⟩ := T
  have hn2 : n < 1000 := by omega
  have hne : d ≠ el := c1.apE c2 (fun z => by cases z)
  obtain ⟨w1, w2, w3, w4⟩ := dq_w1 hn hh hl
  have hm : (hd + P.length) % n < n := Nat.mod_lt _ (by omega)
  refine st_J4_addFirst (ls := [some (.ref d), some (.ref a), none]) F rfl (body := fun M X => ?_)
  refine J.aload1 X dJ4_addFirst_0 ?_
  refine J.ifnonnullR (tgt := 12) X dJ4_addFirst_1 (by decide) ?_
  refine J.aload0 X dJ4_addFirst_12 ?_
  refine J.getf X dJ4_addFirst_13 fl_J4_3_J4 (c1.1) rfl ?_
  refine J.astore2 X dJ4_addFirst_16 ?_
  refine J.aload2 X dJ4_addFirst_17 ?_
  refine J.aload0 X dJ4_addFirst_18 ?_
  refine J.aload0 X dJ4_addFirst_19 ?_
  refine J.getf X dJ4_addFirst_20 fl_J4_24_J4 (c1.1) rfl ?_
  refine J.aload2 X dJ4_addFirst_23 ?_
  refine J.alen (t := 5) (v := nI n) X dJ4_addFirst_24 (c2.1) rfl (rfl) ?_
  refine J.callSi X dJ4_addFirst_25 lk_J4_68 ce_J4_dec (dq_dec F hh hn2) (by decide) rfl (fun r h' e _ => ?_)
  obtain ⟨rfl, rfl⟩ := e
  have hw : ∀ i, i < P.length → (hd + i) % n ≠ (if hd = 0 then n - 1 else hd - 1) := by
    intro i hi
    rcases hn with rfl | rfl <;> split <;> omega
  have hw2 : ∀ i, ((if hd = 0 then n - 1 else hd - 1) + (i + 1)) % n = (hd + i) % n := by
    intro i
    rcases hn with rfl | rfl <;> split <;> omega
  generalize (if hd = 0 then n - 1 else hd - 1) = hd' at w1 w2 w3 w4 hw hw2
  refine J.dup_x1 X dJ4_addFirst_28 ?_
  refine J.fresh c1.1 ?_
  refine J.putfS X dJ4_addFirst_29 (pl_J4_24_J4 _) (c1.1) (Nat.le_of_ble_eq_true rfl) (rfl) (rfl) ?_
  refine J.aload1 X dJ4_addFirst_32 ?_
  have c1' := c1.same (jO 14 [.ref el, .int (nI hd'), .int (nI ((hd + P.length) % n))])
  have c2' := c2.ne (jO 14 [.ref el, .int (nI hd'), .int (nI ((hd + P.length) % n))]) hne
  have f1 : Fr (fun x => x = t) hE (hset hE d (jO 14 [.ref el, .int (nI hd'), .int (nI ((hd + P.length) % n))])) := Fr.set c1 rfl
  have g' := g.fr f1 (fun z => ht1 z.symm)
  show J M (hset hE d (jO 14 [.ref el, .int (nI hd'), .int (nI ((hd + P.length) % n))])) _ _ _
  have e1 : hres (hset hE d (jO 14 [.ref el, .int (nI hd'), .int (nI ((hd + P.length) % n))])) = hres hE := by refine hres_setS c1 ?_; rfl
  generalize hset hE d (jO 14 [.ref el, .int (nI hd'), .int (nI ((hd + P.length) % n))]) = h1 at c1' c2' f1 g' e1
  refine J.aastO (E := "java/lang/Object") X dJ4_addFirst_33 c2'.1 rfl g'.2.1 jcl_8 q3041 rfl w1 ?_
  have c1'' := c1'.ne (jAR K 5 n (va_up f hd' (some a))) hne.symm
  have f2 : Fr (fun x => x = t) h1 (hset h1 el (jAR K 5 n (va_up f hd' (some a)))) := Fr.set c2' rfl
  have e2 : hres (hset h1 el (jAR K 5 n (va_up f hd' (some a)))) = hres hE := by
    rw [← e1]; refine hres_setS c2' ?_; rfl
  replace c2' := c2'.same (jAR K 5 n (va_up f hd' (some a)))
  have f3 := f1.tr f2
  generalize hset h1 el (jAR K 5 n (va_up f hd' (some a))) = h2 at c1'' c2' f3 e2
  have hk' : ∀ p ∈ (a, k) :: P, IsKey h2 p.1 p.2 := by
    intro p hp
    rcases List.mem_cons.mp hp with rfl | hp
    · exact g.fr f3 (fun z => ht1 z.symm)
    · exact (hk p hp).fr f3 (fun z => ht1 z.symm)
  have hf' : ∀ i, i < ((a, k) :: P).length → va_up f hd' (some a) ((hd' + i) % n) = (((a, k) :: P)[i]?).map Prod.fst := by
    intro i hi
    cases i with
    | zero => rw [show (hd' + 0) % n = hd' by rw [Nat.add_zero, Nat.mod_eq_of_lt w1], va_up_self]; rfl
    | succ i =>
      rw [hw2, va_up_ne _ _ (hw i (by simpa using hi)), hf i (by simpa using hi)]
      rfl
  refine J.aload0 X dJ4_addFirst_34 ?_
  refine J.getf X dJ4_addFirst_35 fl_J4_24_J4 (c1''.1) rfl ?_
  refine J.aload0 X dJ4_addFirst_38 ?_
  refine J.getf X dJ4_addFirst_39 fl_J4_20_J4 (c1''.1) rfl ?_
  refine J.icmp_neN (tgt := 50) X dJ4_addFirst_42 (by decide) (by omega) (by omega) (fun c3 => ?_) (fun c3 => ?_)
  · skip
    refine J.vreturn X dJ4_addFirst_50 (jRv.of ?_)
    have hlt : P.length + 1 < n := by
      rcases Nat.lt_or_ge (P.length + 1) n with z | z
      · exact z
      · exact absurd (w4 (by omega)) c3
    refine ⟨⟨el, n, hd', _, ?_, c2', hn, w1, hlt, hf', hk'⟩, f3, by rw [e2]; omega⟩
    rw [List.length_cons, w2]
    exact c1''
  · skip
    have hlt : P.length + 1 = n := by
      rcases Nat.lt_or_ge (P.length + 1) n with z | z
      · exact absurd c3 (w3 z)
      · omega
    obtain rfl : n = 17 := by omega
    rw [← c3] at c1''
    refine J.aload0 X dJ4_addFirst_45 ?_
    refine J.iconst (v := nI 1) X dJ4_addFirst_46 (by decide) ?_
    refine J.callVv X dJ4_addFirst_47 lk_J4_71_J4 ce_J4_grow (dq_grow F c1'' c2' w1 (by rw [List.length_cons]; exact hlt) hf' hk' ht1 (by rw [e2]; exact hr)) (by decide) rfl (c1''.1) rfl (fun h' e _ => ?_)
    obtain ⟨S, f4, e4⟩ := e
    refine J.vreturn X dJ4_addFirst_50 (jRv.of ?_)
    exact ⟨S, f3.tr f4, by rw [e4, e2]; exact Nat.le_refl _⟩
theorem dq_addLast {K : JK} {l : Launch} {hE : JIH} {t d a k : Nat} {P : List (Nat × Nat)} (F : JF K) (T : DQ K t hE d P) (g : IsKey hE a k) (hP : P.length ≤ 20) (ht1 : t ≠ 1) (hr : hres hE + 44 ≤ jRL) :
    Ct K l yJ4_addLast wJ4_addLast 5 [.ref d, .ref a] hE (jRv (fun h' => DQ K t h' d (P ++ [(a, k)]) ∧ Fr (fun x => x = t) hE h' ∧ hres h' ≤ hres hE + 44)) jNo := by
  obtain ⟨el, n, hd, f, c1, c2, hn, hh, hl, hf, hk⟩ := T
  have hn2 : n < 1000 := by omega
  have hne : d ≠ el := c1.apE c2 (fun z => by cases z)
  obtain ⟨w1, w2, w3, w4⟩ := dq_w2 hn hh hl
  have hm : (hd + P.length) % n < n := Nat.mod_lt _ (by omega)
  refine st_J4_addLast (ls := [some (.ref d), some (.ref a), none]) F rfl (body := fun M X => ?_)
  refine J.aload1 X dJ4_addLast_0 ?_
  refine J.ifnonnullR (tgt := 12) X dJ4_addLast_1 (by decide) ?_
  refine J.aload0 X dJ4_addLast_12 ?_
  refine J.getf X dJ4_addLast_13 fl_J4_3_J4 (c1.1) rfl ?_
  refine J.astore2 X dJ4_addLast_16 ?_
  refine J.aload2 X dJ4_addLast_17 ?_
  refine J.aload0 X dJ4_addLast_18 ?_
  refine J.getf X dJ4_addLast_19 fl_J4_20_J4 (c1.1) rfl ?_
  refine J.aload1 X dJ4_addLast_22 ?_
  refine J.aastO (E := "java/lang/Object") X dJ4_addLast_23 c2.1 rfl g.2.1 jcl_8 q3041 rfl hm ?_
  have c1' := c1.ne (jAR K 5 n (va_up f ((hd + P.length) % n) (some a))) hne.symm
  have f1 : Fr (fun x => x = t) hE (hset hE el (jAR K 5 n (va_up f ((hd + P.length) % n) (some a)))) := Fr.set c2 rfl
  have e1 : hres (hset hE el (jAR K 5 n (va_up f ((hd + P.length) % n) (some a)))) = hres hE := by
    refine hres_setS c2 ?_; rfl
  have c2' := c2.same (jAR K 5 n (va_up f ((hd + P.length) % n) (some a)))
  generalize hset hE el (jAR K 5 n (va_up f ((hd + P.length) % n) (some a))) = h1 at c1' c2' f1 e1
  refine J.aload0 X dJ4_addLast_24 ?_
  refine J.getf X dJ4_addLast_25 fl_J4_24_J4 (c1'.1) rfl ?_
  refine J.aload0 X dJ4_addLast_28 ?_
  refine J.aload0 X dJ4_addLast_29 ?_
  refine J.getf X dJ4_addLast_30 fl_J4_20_J4 (c1'.1) rfl ?_
  refine J.aload2 X dJ4_addLast_33 ?_
  refine J.alen (t := 5) (v := nI n) X dJ4_addLast_34 (c2'.1) rfl (rfl) ?_
  refine J.callSi X dJ4_addLast_35 lk_J4_74 ce_J4_inc (dq_inc F hm hn2) (by decide) rfl (fun r h' e _ => ?_)
  obtain ⟨rfl, rfl⟩ := e
  rw [w1]
  have hf' : ∀ i, i < (P ++ [(a, k)]).length → va_up f ((hd + P.length) % n) (some a) ((hd + i) % n) = ((P ++ [(a, k)])[i]?).map Prod.fst := by
    intro i hi
    rw [List.length_append] at hi
    by_cases e : i < P.length
    · rw [va_up_ne _ _ (w4 i e), hf i e, List.getElem?_append_left e]
    · have e2 : i = P.length := by simp at hi; omega
      subst e2
      rw [va_up_self, List.getElem?_append_right (Nat.le_refl _), Nat.sub_self]
      rfl
  have hm2 : (hd + (P.length + 1)) % n < n := Nat.mod_lt _ (by omega)
  refine J.dup_x1 X dJ4_addLast_38 ?_
  refine J.fresh c1'.1 ?_
  refine J.putfS X dJ4_addLast_39 (pl_J4_20_J4 _) (c1'.1) (Nat.le_of_ble_eq_true rfl) (rfl) (rfl) ?_
  have c2'' := c2'.ne (jO 14 [.ref el, .int (nI hd), .int (nI ((hd + (P.length + 1)) % n))]) hne
  have f2 : Fr (fun x => x = t) h1 (hset h1 d (jO 14 [.ref el, .int (nI hd), .int (nI ((hd + (P.length + 1)) % n))])) := Fr.set c1' rfl
  have e2 : hres (hset h1 d (jO 14 [.ref el, .int (nI hd), .int (nI ((hd + (P.length + 1)) % n))])) = hres hE := by
    rw [← e1]; refine hres_setS c1' ?_; rfl
  replace c1' := c1'.same (jO 14 [.ref el, .int (nI hd), .int (nI ((hd + (P.length + 1)) % n))])
  have f3 := f1.tr f2
  show J M (hset h1 d (jO 14 [.ref el, .int (nI hd), .int (nI ((hd + (P.length + 1)) % n))])) _ _ _
  generalize hset h1 d (jO 14 [.ref el, .int (nI hd), .int (nI ((hd + (P.length + 1)) % n))]) = h2 at c1' c2'' f3 e2
  have hk' : ∀ p ∈ P ++ [(a, k)], IsKey h2 p.1 p.2 := by
    intro p hp
    rcases List.mem_append.mp hp with hp | hp
    · exact (hk p hp).fr f3 (fun z => ht1 z.symm)
    · rw [List.mem_singleton.mp hp]
      exact g.fr f3 (fun z => ht1 z.symm)
  refine J.icmp_neN (tgt := 50) X dJ4_addLast_42 (by decide) (by omega) (by omega) (fun c3 => ?_) (fun c3 => ?_)
  · skip
    refine J.vreturn X dJ4_addLast_50 (jRv.of ?_)
    have hlt : P.length + 1 < n := by
      rcases Nat.lt_or_ge (P.length + 1) n with z | z
      · exact z
      · exact absurd (w3 (by omega)) c3
    refine ⟨⟨el, n, hd, _, ?_, c2'', hn, hh, by rw [List.length_append]; exact hlt, hf', hk'⟩, f3, by rw [e2]; omega⟩
    rw [List.length_append]
    exact c1'
  · skip
    have hlt : P.length + 1 = n := by
      rcases Nat.lt_or_ge (P.length + 1) n with z | z
      · exact absurd c3 (w2 z)
      · omega
    obtain rfl : n = 17 := by omega
    rw [← c3] at c1'
    refine J.aload0 X dJ4_addLast_45 ?_
    refine J.iconst (v := nI 1) X dJ4_addLast_46 (by decide) ?_
    refine J.callVv X dJ4_addLast_47 lk_J4_71_J4 ce_J4_grow (dq_grow F c1' c2'' hh (by rw [List.length_append]; exact hlt) hf' hk' ht1 (by rw [e2]; exact hr)) (by decide) rfl (c1'.1) rfl (fun h' e _ => ?_)
    obtain ⟨S, f4, e4⟩ := e
    refine J.vreturn X dJ4_addLast_50 (jRv.of ?_)
    exact ⟨S, f3.tr f4, by rw [e4, e2]; exact Nat.le_refl _⟩
theorem dq_at {K : JK} {l : Launch} {hE : JIH} (F : JF K) {el n i : Nat} {f : Nat → Option Nat} (ha : hget hE el = some (jAR K 5 n f)) (hn : n < 1000) (hi : i < n) :
    Ct K l yJ4_elementAt wJ4_elementAt 0 [.ref el, .int (nI i)] hE (jRa (fun r h' => r = f i ∧ hE = h')) jNo := by
  refine st_J4_elementAt (ls := [some (.ref el), some (.int (nI i))]) F rfl (body := fun M X => ?_)
  refine J.aload0 X dJ4_elementAt_0 ?_
  refine J.iload1 X dJ4_elementAt_1 ?_
  refine J.aald X dJ4_elementAt_2 (ha) rfl (rfl) (hi) ?_
  refine J.areturnO X dJ4_elementAt_3 (jRa.of ?_)
  exact ⟨rfl, rfl⟩
theorem dq_atN {K : JK} {l : Launch} {hE : JIH} (F : JF K) {el n i a : Nat} {f : Nat → Option Nat} (ha : hget hE el = some (jAR K 5 n f)) (hn : n < 1000) (hi : i < n) (hf : f i = some a) :
    Ct K l yJ4_nonNullElementAt wJ4_nonNullElementAt 0 [.ref el, .int (nI i)] hE (jRa (fun r h' => r = some a ∧ hE = h')) jNo := by
  refine st_J4_nonNullElementAt (ls := [some (.ref el), some (.int (nI i)), none]) F rfl (body := fun M X => ?_)
  refine J.aload0 X dJ4_nonNullElementAt_0 ?_
  refine J.iload1 X dJ4_nonNullElementAt_1 ?_
  refine J.aald X dJ4_nonNullElementAt_2 (ha) rfl (rfl) (hi) ?_
  rw [hf]
  refine J.astore2 X dJ4_nonNullElementAt_3 ?_
  refine J.aload2 X dJ4_nonNullElementAt_4 ?_
  refine J.ifnonnullR (tgt := 16) X dJ4_nonNullElementAt_5 (by decide) ?_
  refine J.aload2 X dJ4_nonNullElementAt_16 ?_
  refine J.areturnO X dJ4_nonNullElementAt_17 (jRa.ofR ?_)
  exact ⟨rfl, rfl⟩
theorem dq_pollLast {K : JK} {l : Launch} {hE : JIH} {t d : Nat} {P : List (Nat × Nat)} (F : JF K) (T : DQ K t hE d P) (hP : P ≠ []) (ht1 : t ≠ 1) :
    Ct K l yJ4_pollLast wJ4_pollLast 1 [.ref d] hE (jRa (fun _ h' => DQ K t h' d P.dropLast ∧ Fr (fun x => x = t) hE h' ∧ hres h' = hres hE)) jNo := by
  obtain ⟨el, n, hd, f, c1, c2, hn, hh, hl, hf, hk⟩ := T
  have hn2 : n < 1000 := by omega
  have hne : d ≠ el := c1.apE c2 (fun z => by cases z)
  have hm : (hd + P.length) % n < n := Nat.mod_lt _ (by omega)
  have hpos : 0 < P.length := List.length_pos_iff.mpr hP
  have hw : (if (hd + P.length) % n = 0 then n - 1 else (hd + P.length) % n - 1) = (hd + (P.length - 1)) % n := by
    rcases hn with rfl | rfl <;> split <;> omega
  have hm2 : (hd + (P.length - 1)) % n < n := Nat.mod_lt _ (by omega)
  refine st_J4_pollLast (ls := [some (.ref d), none, none, none]) F rfl (body := fun M X => ?_)
  refine J.aload0 X dJ4_pollLast_0 ?_
  refine J.getf X dJ4_pollLast_1 fl_J4_3_J4 (c1.1) rfl ?_
  refine J.dup X dJ4_pollLast_4 ?_
  refine J.astore1 X dJ4_pollLast_5 ?_
  refine J.aload0 X dJ4_pollLast_6 ?_
  refine J.getf X dJ4_pollLast_7 fl_J4_20_J4 (c1.1) rfl ?_
  refine J.aload1 X dJ4_pollLast_10 ?_
  refine J.alen (t := 5) (v := nI n) X dJ4_pollLast_11 (c2.1) rfl (rfl) ?_
  refine J.callSi X dJ4_pollLast_12 lk_J4_68 ce_J4_dec (dq_dec F hm hn2) (by decide) rfl (fun r h' e _ => ?_)
  obtain ⟨rfl, rfl⟩ := e
  rw [hw]
  refine J.dup X dJ4_pollLast_15 ?_
  refine J.istore2 X dJ4_pollLast_16 ?_
  refine J.callSa X dJ4_pollLast_17 lk_J4_103 ce_J4_elementAt (dq_at F c2.1 hn2 hm2) (by decide) rfl (fun r h' e _ => ?_)
  obtain ⟨rfl, rfl⟩ := e
  rw [hf _ (by omega), List.getElem?_eq_getElem (show P.length - 1 < P.length by omega)]
  refine J.astore3 X dJ4_pollLast_20 ?_
  refine J.aload3 X dJ4_pollLast_21 ?_
  refine J.ifnullR (tgt := 34) X dJ4_pollLast_22 (by decide) ?_
  refine J.aload1 X dJ4_pollLast_25 ?_
  refine J.aload0 X dJ4_pollLast_26 ?_
  refine J.iload2 X dJ4_pollLast_27 ?_
  refine J.dup_x1 X dJ4_pollLast_28 ?_
  refine J.fresh c1.1 ?_
  have c1' := c1.same (jO 14 [.ref el, .int (nI hd), .int (nI ((hd + (P.length - 1)) % n))])
  have c2' := c2.ne (jO 14 [.ref el, .int (nI hd), .int (nI ((hd + (P.length - 1)) % n))]) hne
  have f1 : Fr (fun x => x = t) hE (hset hE d (jO 14 [.ref el, .int (nI hd), .int (nI ((hd + (P.length - 1)) % n))])) := Fr.set c1 rfl
  have e1 : hres (hset hE d (jO 14 [.ref el, .int (nI hd), .int (nI ((hd + (P.length - 1)) % n))])) = hres hE := by refine hres_setS c1 ?_; rfl
  refine J.putfS X dJ4_pollLast_29 (pl_J4_20_J4 _) (c1.1) (Nat.le_of_ble_eq_true rfl) (rfl) (rfl) ?_
  refine J.aconst_null X dJ4_pollLast_32 ?_
  show J M (hset hE d (jO 14 [.ref el, .int (nI hd), .int (nI ((hd + (P.length - 1)) % n))])) _ _ _
  generalize hset hE d (jO 14 [.ref el, .int (nI hd), .int (nI ((hd + (P.length - 1)) % n))]) = h1 at c1' c2' f1 e1
  refine J.aastN (C := "java/lang/Object") X dJ4_pollLast_33 c2'.1 rfl rfl hm2 ?_
  have f2 : Fr (fun x => x = t) h1 (hset h1 el (jAR K 5 n (va_up f ((hd + (P.length - 1)) % n) none))) := Fr.set c2' rfl
  refine J.aload3 X dJ4_pollLast_34 ?_
  refine J.areturnO X dJ4_pollLast_35 (jRa.ofR ?_)
  refine ⟨⟨el, n, hd, _, ?_, c2'.same _, hn, hh, by rw [List.length_dropLast]; omega, fun i hi => ?_, fun p hp => ?_⟩, f1.tr f2, ?_⟩
  · rw [List.length_dropLast]
    exact c1'.ne _ hne.symm
  · rw [List.length_dropLast] at hi
    rw [va_up_ne, hf i (by omega), List.getElem?_dropLast, if_pos hi]
    rcases hn with rfl | rfl <;> omega
  · exact (hk p (List.dropLast_subset _ hp)).fr (f1.tr f2) (fun z => ht1 z.symm)
  · rw [← e1]
    refine hres_setS c2' ?_
    rfl
/-- a deque, and an iterator (tag 7) that has given the first j -/
def DQJ (K : JK) (t : Nat) (h : JIH) (d : Nat) (P : List (Nat × Nat)) (it j : Nat) : Prop := ∃ (el n hd : Nat) (f : Nat → Option Nat) (lr : Int32), (hc h t d (jO 14 [.ref el, .int (nI hd), .int (nI ((hd + P.length) % n))]) ∧ hc h t el (jAR K 5 n f) ∧ (n = 17 ∨ n = 36) ∧ hd < n ∧ P.length < n ∧ (∀ i, i < P.length → f ((hd + i) % n) = (P[i]?).map Prod.fst) ∧ ∀ p ∈ P, IsKey h p.1 p.2) ∧ hc h 7 it (jO 15 [.int (nI ((hd + j) % n)), .int (nI (P.length - j)), .int lr, .ref d])
theorem DQJ.dq {K : JK} {t : Nat} {h : JIH} {d : Nat} {P : List (Nat × Nat)} {it j : Nat} (S : DQJ K t h d P it j) : DQ K t h d P := by
  obtain ⟨el, n, hd, f, lr, c, -⟩ := S
  exact ⟨el, n, hd, f, c⟩
theorem DQJ.ob {K : JK} {t : Nat} {h : JIH} {d : Nat} {P : List (Nat × Nat)} {it j : Nat} (S : DQJ K t h d P it j) : ∃ fs, hc h 7 it (jO 15 fs) := by
  obtain ⟨el, n, hd, f, lr, c, c2⟩ := S
  exact ⟨_, c2⟩
theorem DQJ.fr {K : JK} {t : Nat} {h h' : JIH} {d : Nat} {P : List (Nat × Nat)} {it j : Nat} {T : Nat → Prop} (S : DQJ K t h d P it j) (g : Fr T h h') (ht : ¬ T t) (h1 : ¬ T 1) (h7 : ¬ T 7) : DQJ K t h' d P it j := by
  obtain ⟨el, n, hd, f, lr, ⟨c1, c2, hn, hh, hl, hf, hk⟩, ci⟩ := S
  exact ⟨el, n, hd, f, lr, ⟨c1.fr g ht, c2.fr g ht, hn, hh, hl, hf, fun p hp => (hk p hp).fr g h1⟩, ci.fr g h7⟩
theorem dq_itInit {K : JK} {l : Launch} {hE : JIH} {t d i : Nat} {P : List (Nat × Nat)} (F : JF K) (T : DQ K t hE d P) (hi : hc hE 7 i (jO 15 [.int 0, .int 0, .int 0, .null])) (ht : t ≠ 7) :
    Ct K l yJ38_init wJ38_init 2 [.ref i, .ref d] hE (jRv (fun h' => DQJ K t h' d P i 0 ∧ Fr (fun x => x = 7) hE h' ∧ hres h' = hres hE)) jNo := by
  refine st_J38_init (ls := [some (.ref i), some (.ref d)]) F rfl (body := fun M X => ?_)
  refine J.fresh hi.1 ?_
  refine J.aload0 X dJ38_init_0 ?_
  refine J.aload1 X dJ38_init_1 ?_
  refine J.putfS X dJ38_init_2 pl_J38_1_J38 (hi.1) (Nat.le_of_ble_eq_true rfl) (rfl) (rfl) ?_
  refine J.aload0 X dJ38_init_5 ?_
  refine J.objInit X dJ38_init_6 lk_J38_7 (by decide) ?_
  refine J.aload0 X dJ38_init_9 ?_
  have hi1 := hi.same (jO 15 [.int 0, .int 0, .int 0, .ref d])
  have f1 : Fr (fun x => x = 7) hE (hset hE i (jO 15 [.int 0, .int 0, .int 0, .ref d])) := Fr.set hi rfl
  have T1 := T.fr f1 ht (by decide)
  have e1 : hres (hset hE i (jO 15 [.int 0, .int 0, .int 0, .ref d])) = hres hE := by refine hres_setS hi ?_; rfl
  show J M (hset hE i (jO 15 [.int 0, .int 0, .int 0, .ref d])) _ _ _
  generalize hset hE i (jO 15 [.int 0, .int 0, .int 0, .ref d]) = h1 at hi1 f1 T1 e1
  obtain ⟨fs, ob⟩ := T1.ob
  refine J.aload0 X dJ38_init_10 ?_
  refine J.getf X dJ38_init_11 fl_J38_1_J38 (hi1.1) rfl ?_
  refine J.callVi X dJ38_init_14 lk_J38_13_J4 ce_J4_size (dq_size F T1) (by decide) rfl (ob.1) rfl (fun r h' e _ => ?_)
  obtain ⟨rfl, rfl⟩ := e
  obtain ⟨el, n, hd, f, c1, c2, hn, hh, hl, hf, hk⟩ := T1
  have hne : i ≠ d := hi1.apE c1 (jO_ne (by decide))
  refine J.fresh hi1.1 ?_
  refine J.putfS X dJ38_init_17 (pl_J38_19_J38 _) (hi1.1) (Nat.le_of_ble_eq_true rfl) (rfl) (rfl) ?_
  refine J.aload0 X dJ38_init_20 ?_
  refine J.iconst (v := -1) X dJ38_init_21 (by decide) ?_
  refine J.putfS X dJ38_init_22 (pl_J38_23_J38 _) (hi1.1) (Nat.le_of_ble_eq_true rfl) (rfl) (rfl) ?_
  refine J.aload0 X dJ38_init_25 ?_
  refine J.aload1 X dJ38_init_26 ?_
  refine J.getf X dJ38_init_27 fl_J38_26_J4 ((hget_set_ne _ hne).trans c1.1) rfl ?_
  refine J.putfS X dJ38_init_30 (pl_J38_29_J38 _) (hi1.1) (Nat.le_of_ble_eq_true rfl) (rfl) (rfl) ?_
  refine J.vreturn X dJ38_init_33 (jRv.of ?_)
  have f2 : Fr (fun x => x = 7) h1 (hset h1 i (jO 15 [.int (nI hd), .int (nI P.length), .int (-1), .ref d])) := Fr.set hi1 rfl
  refine ⟨⟨el, n, hd, f, -1, ⟨c1.fr f2 ht, c2.fr f2 ht, hn, hh, hl, hf, fun p hp => (hk p hp).fr f2 (by decide)⟩, ?_⟩, f1.tr f2, ?_⟩
  · rw [Nat.add_zero, Nat.mod_eq_of_lt hh, Nat.sub_zero]
    exact hi1.same _
  · rw [← e1]; refine hres_setS hi1 ?_; rfl
theorem dq_iter {K : JK} {l : Launch} {hE : JIH} {t d : Nat} {P : List (Nat × Nat)} (F : JF K) (T : DQ K t hE d P) (ht : t ≠ 7) (hr : hres hE + 12 ≤ jRL) :
    Ct K l yJ4_iterator wJ4_iterator 3 [.ref d] hE (jRa (fun r h' => ∃ it, r = some it ∧ DQJ K t h' d P it 0 ∧ Fr (fun x => x = 7) hE h' ∧ hres h' = hres hE + 12)) jNo := by
  refine st_J4_iterator (ls := [some (.ref d)]) F rfl (body := fun M X => ?_)
  refine J.new (ci := 15) (7) X dJ4_iterator_0 jcl_15 cl_J4_131 rfl (hr) ?_
  have f1 := Fr.push (fun x => x = 7) hE 7 (jO 15 [.int 0, .int 0, .int 0, .null])
  refine J.dup X dJ4_iterator_3 ?_
  refine J.aload0 X dJ4_iterator_4 ?_
  refine J.callI X dJ4_iterator_5 lk_J4_133 ce_J38_init (dq_itInit F (T.fr f1 ht (by decide)) (hc.new _ _ _) ht) (by decide) rfl (fun h' e _ => ?_)
  obtain ⟨S, f2, e2⟩ := e
  refine J.areturnO X dJ4_iterator_8 (jRa.ofR ?_)
  exact ⟨_, rfl, S, f1.tr f2, by rw [e2, hres_push]; rfl⟩
theorem dq_has {K : JK} {l : Launch} {hE : JIH} {t d it j : Nat} {P : List (Nat × Nat)} (F : JF K) (T : DQJ K t hE d P it j) :
    Ct K l yJ38_hasNext wJ38_hasNext 0 [.ref it] hE (jRi (fun r h' => r = jB (j < P.length) ∧ hE = h')) jNo := by
  obtain ⟨el, n, hd, f, lr, ⟨c1, c2, hn, hh, hl, hf, hk⟩, ci⟩ := T
  refine st_J38_hasNext (ls := [some (.ref it)]) F rfl (body := fun M X => ?_)
  refine J.aload0 X dJ38_hasNext_0 ?_
  refine J.getf X dJ38_hasNext_1 fl_J38_19_J38 (ci.1) rfl ?_
  refine J.if_leN (tgt := 11) X dJ38_hasNext_4 (by decide) (by omega) (fun c3 => ?_) (fun c3 => ?_)
  · skip
    refine J.iconst (v := nI 0) X dJ38_hasNext_11 (by decide) ?_
    refine J.zreturn X dJ38_hasNext_12 (rfl) (jRi.of ?_)
    exact ⟨jB_0 (by omega), rfl⟩
  · skip
    refine J.iconst (v := nI 1) X dJ38_hasNext_7 (by decide) ?_
    refine J.goto (tgt := 12) X dJ38_hasNext_8 (by decide) ?_
    refine J.zreturn X dJ38_hasNext_12 (rfl) (jRi.of ?_)
    exact ⟨jB_1 (by omega), rfl⟩
theorem dq_next {K : JK} {l : Launch} {hE : JIH} {t d it j : Nat} {P : List (Nat × Nat)} (F : JF K) (T : DQJ K t hE d P it j) {p : Nat × Nat} (hp : P[j]? = some p) (ht : t ≠ 7) :
    Ct K l yJ38_next wJ38_next 1 [.ref it] hE (jRa (fun r h' => r = some p.1 ∧ DQJ K t h' d P it (j + 1) ∧ Fr (fun x => x = 7) hE h' ∧ hres h' = hres hE)) jNo := by
  obtain ⟨el, n, hd, f, lr, ⟨c1, c2, hn, hh, hl, hf, hk⟩, ci⟩ := T
  have hj := (List.getElem?_eq_some_iff.mp hp).1
  have hn2 : n < 1000 := by omega
  have hm : (hd + j) % n < n := Nat.mod_lt _ (by omega)
  have hne : it ≠ el := ci.apE c2 (fun z => by cases z)
  have hw : (if (hd + j) % n + 1 = n then 0 else (hd + j) % n + 1) = (hd + (j + 1)) % n := by
    rcases hn with rfl | rfl <;> split <;> omega
  refine st_J38_next (ls := [some (.ref it), none, none]) F rfl (body := fun M X => ?_)
  refine J.aload0 X dJ38_next_0 ?_
  refine J.getf X dJ38_next_1 fl_J38_19_J38 (ci.1) rfl ?_
  refine J.if_gtN (tgt := 15) X dJ38_next_4 (by decide) (by omega) (fun _ => ?_) (fun q9 => absurd q9 (by omega))
  refine J.aload0 X dJ38_next_15 ?_
  refine J.getf X dJ38_next_16 fl_J38_1_J38 (ci.1) rfl ?_
  refine J.getf X dJ38_next_19 fl_J38_35_J4 (c1.1) rfl ?_
  refine J.astore1 X dJ38_next_22 ?_
  refine J.aload1 X dJ38_next_23 ?_
  refine J.aload0 X dJ38_next_24 ?_
  refine J.getf X dJ38_next_25 fl_J38_29_J38 (ci.1) rfl ?_
  refine J.callSa X dJ38_next_28 lk_J38_39 ce_J4_nonNullElementAt (dq_atN F c2.1 hn2 hm (by rw [hf j hj, hp]; rfl)) (by decide) rfl (fun r h' e _ => ?_)
  obtain ⟨rfl, rfl⟩ := e
  refine J.astore2 X dJ38_next_31 ?_
  refine J.aload0 X dJ38_next_32 ?_
  refine J.aload0 X dJ38_next_33 ?_
  refine J.aload0 X dJ38_next_34 ?_
  refine J.getf X dJ38_next_35 fl_J38_29_J38 (ci.1) rfl ?_
  refine J.dup_x1 X dJ38_next_38 ?_
  refine J.fresh ci.1 ?_
  refine J.putfS X dJ38_next_39 (pl_J38_23_J38 _) (ci.1) (Nat.le_of_ble_eq_true rfl) (rfl) (rfl) ?_
  have ci1 := ci.same (jO 15 [.int (nI ((hd + j) % n)), .int (nI (P.length - j)), .int (nI ((hd + j) % n)), .ref d])
  have f1 : Fr (fun x => x = 7) hE (hset hE it (jO 15 [.int (nI ((hd + j) % n)), .int (nI (P.length - j)), .int (nI ((hd + j) % n)), .ref d])) := Fr.set ci rfl
  have e1 : hres (hset hE it (jO 15 [.int (nI ((hd + j) % n)), .int (nI (P.length - j)), .int (nI ((hd + j) % n)), .ref d])) = hres hE := by refine hres_setS ci ?_; rfl
  show J M (hset hE it (jO 15 [.int (nI ((hd + j) % n)), .int (nI (P.length - j)), .int (nI ((hd + j) % n)), .ref d])) _ _ _
  generalize hset hE it (jO 15 [.int (nI ((hd + j) % n)), .int (nI (P.length - j)), .int (nI ((hd + j) % n)), .ref d]) = h1 at ci1 f1 e1
  refine J.aload1 X dJ38_next_42 ?_
  refine J.alen (t := 5) (v := nI n) X dJ38_next_43 ((c2.fr f1 ht).1) rfl (rfl) ?_
  refine J.callSi X dJ38_next_44 lk_J38_43 ce_J4_inc (dq_inc F hm hn2) (by decide) rfl (fun r h' e _ => ?_)
  obtain ⟨rfl, rfl⟩ := e
  rw [hw]
  refine J.fresh ci1.1 ?_
  refine J.putfS X dJ38_next_47 (pl_J38_29_J38 _) (ci1.1) (Nat.le_of_ble_eq_true rfl) (rfl) (rfl) ?_
  refine J.aload0 X dJ38_next_50 ?_
  refine J.dup X dJ38_next_51 ?_
  refine J.getf X dJ38_next_52 fl_J38_19_J38 ((hget_set_same _ ci1.1)) rfl ?_
  refine J.iconst (v := nI 1) X dJ38_next_55 (by decide) ?_
  refine J.isubN X dJ38_next_56 (by omega) ?_
  refine J.putfS X dJ38_next_57 (pl_J38_19_J38 _) (ci1.1) (Nat.le_of_ble_eq_true rfl) (rfl) (rfl) ?_
  refine J.aload2 X dJ38_next_60 ?_
  refine J.areturnO X dJ38_next_61 (jRa.ofR ?_)
  have f2 : Fr (fun x => x = 7) h1 (hset h1 it (jO 15 [.int (nI ((hd + (j + 1)) % n)), .int (nI (P.length - j - 1)), .int (nI ((hd + j) % n)), .ref d])) := Fr.set ci1 rfl
  have f3 := f1.tr f2
  refine ⟨rfl, ⟨el, n, hd, f, nI ((hd + j) % n), ⟨c1.fr f3 ht, c2.fr f3 ht, hn, hh, hl, hf, fun p hp => (hk p hp).fr f3 (by decide)⟩, ?_⟩, f3, ?_⟩
  · rw [show P.length - (j + 1) = P.length - j - 1 by omega]
    exact ci1.same _
  · rw [← e1]; refine hres_setS ci1 ?_; rfl
