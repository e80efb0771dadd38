/-! LinkedHashMap: put, clear; the map as its callers see it -/
theorem hm_clear {K : JK} {l : Launch} {hE : JIH} {t m : Nat} {D : List Nat} {ea : Nat → Nat} {ka : Nat → Nat} {ta : Nat → Nat} {nx : Nat → Option Nat} {bf : Nat → Option Nat} {af : Nat → Option Nat} {tb : Option Nat} {n : Nat} {f : Nat → Option Nat} {es : Option Nat} {ks : Option Nat} {vs : Option Nat} {sz : Nat} {mc : Int32} {th : Nat} {lf : Value} {hd : Option Nat} {tl : Option Nat} (F : JF K) (T : LmR K t hE m D ea ka ta nx bf af tb n f es ks vs sz mc th lf hd tl) (W : LmW D ea nx bf af tb n f th hd tl) (hsz : sz = D.length) :
    Ct K l yJ1_clear wJ1_clear 0 [.ref m] hE (jRv (fun h' => ∃ f', LmS K t 0 hE h' m D ea ka ta nx bf af tb n (f') es ks vs (0) (mc + nI 1) th lf hd tl ∧ (∀ j, j < n → f' j = none))) jNo := by
  have hlen : D.length ≤ 400 := nodup_lt W.1 (fun x hx => (T.2.1 x hx).1)
  have S := T.S
  refine st_J1_clear (ls := [some (.ref m), none, none]) F rfl (body := fun M X => ?_)
  refine J.aload0 X dJ1_clear_0 ?_
  refine J.dup X dJ1_clear_1 ?_
  refine J.getf X dJ1_clear_2 fl_J1_202_J2 (S.o) rfl ?_
  refine J.iconst (v := nI 1) X dJ1_clear_5 (by decide) ?_
  refine J.iadd X dJ1_clear_6 ?_
  refine J.lm_mc X dJ1_clear_7 (pl_J1_202_J2 _) S rfl (fun h S => ?_)
  refine J.aload0 X dJ1_clear_10 ?_
  refine J.getf X dJ1_clear_11 fl_J1_105_J2 (S.o) rfl ?_
  refine J.dup X dJ1_clear_14 ?_
  refine J.astore1 X dJ1_clear_15 ?_
  rcases id W.2.2.2.2 with ⟨htb, hn, hth, hQ⟩ | ⟨tA, q, B, htb, h4, h10, hn, hth, hB⟩
  · subst htb
    refine J.ifnullN (a := 0) (tgt := 49) X dJ1_clear_16 (by decide) ?_
    refine J.vreturn X dJ1_clear_49 (jRv.of ?_)
    refine ⟨f, ?_, fun j hj => absurd hj (by omega)⟩
    rw [show sz = 0 by rw [hsz, hQ]; rfl] at S
    exact S
  · subst htb
    have hp := pow_le h4 h10
    rw [← hn] at hp
    refine J.ifnullR (tgt := 49) X dJ1_clear_16 (by decide) ?_
    refine J.aload0 X dJ1_clear_19 ?_
    refine J.getf X dJ1_clear_20 fl_J1_156_J2 (S.o) rfl ?_
    refine J.if_leN (tgt := 49) X dJ1_clear_23 (by decide) (by omega) (fun c1 => ?_) (fun c1 => ?_)
    · skip
      refine J.vreturn X dJ1_clear_49 (jRv.of ?_)
      refine ⟨f, ?_, fun j hj => ?_⟩
      · rw [show sz = 0 by omega] at S
        exact S
      · have : D = [] := List.eq_nil_of_length_eq_zero (by omega)
        obtain ⟨h1, -, -, h3⟩ := hB j hj
        rw [h1]
        cases hL : B j with
        | nil => rfl
        | cons x r =>
          have := ((h3 x).mp (by rw [hL]; exact List.mem_cons_self)).1
          rw [‹D = []›] at this
          cases this
    · skip
      refine J.aload0 X dJ1_clear_26 ?_
      refine J.iconst (v := nI 0) X dJ1_clear_27 (by decide) ?_
      refine J.lm_sz (x := 0) X dJ1_clear_28 (pl_J1_156_J2 _) S rfl (fun h S => ?_)
      refine J.iconst (v := nI 0) X dJ1_clear_31 (by decide) ?_
      refine J.istore2 X dJ1_clear_32 ?_
      have loop : ∀ (d i : Nat), i + d = n → ∀ (h : JIH) (f' : Nat → Option Nat), LmS K t 0 hE h m D ea ka ta nx bf af (some tA) n (f') es ks vs (0) (mc + nI 1) th lf hd tl → (∀ j, j < i → f' j = none) → J M h 33 [some (.ref m), some (.ref tA), some (.int (nI i))] [] := by
        intro d
        induction d with
        | zero =>
          intro i hi h f' S hf
          refine J.iload2 X dJ1_clear_33 ?_
          refine J.aload1 X dJ1_clear_34 ?_
          refine J.alen (t := 6) (v := nI n) X dJ1_clear_35 ((S.tt rfl)) rfl (rfl) ?_
          refine J.icmp_geN (tgt := 49) X dJ1_clear_36 (by decide) (by omega) (by omega) (fun _ => ?_) (fun q9 => absurd q9 (by omega))
          refine J.vreturn X dJ1_clear_49 (jRv.of ?_)
          exact ⟨f', S, fun j hj => hf j (by omega)⟩
        | succ d ih =>
          intro i hi h f' S hf
          refine J.iload2 X dJ1_clear_33 ?_
          refine J.aload1 X dJ1_clear_34 ?_
          refine J.alen (t := 6) (v := nI n) X dJ1_clear_35 ((S.tt rfl)) rfl (rfl) ?_
          refine J.icmp_geN (tgt := 49) X dJ1_clear_36 (by decide) (by omega) (by omega) (fun q9 => absurd q9 (by omega)) (fun _ => ?_)
          refine J.aload1 X dJ1_clear_39 ?_
          refine J.iload2 X dJ1_clear_40 ?_
          refine J.aconst_null X dJ1_clear_41 ?_
          refine J.lm_fN X dJ1_clear_42 S rfl rfl (by omega) (by omega) (fun h S => ?_)
          refine J.iinc2N (d := 1) X dJ1_clear_43 (by decide) ?_
          refine J.goto (tgt := 33) X dJ1_clear_46 (by decide) ?_
          refine ih (i + 1) (by omega) _ _ S (fun j hj => ?_)
          by_cases e : j = i
          · rw [e, va_up_self]
          · rw [va_up_ne _ _ e]; exact hf j (by omega)
      exact loop n 0 (by omega) _ _ S (fun j hj => absurd hj (by omega))
theorem lm_clear {K : JK} {l : Launch} {hE : JIH} {t m : Nat} {D : List Nat} {ea : Nat → Nat} {ka : Nat → Nat} {ta : Nat → Nat} {nx : Nat → Option Nat} {bf : Nat → Option Nat} {af : Nat → Option Nat} {tb : Option Nat} {n : Nat} {f : Nat → Option Nat} {es : Option Nat} {ks : Option Nat} {vs : Option Nat} {sz : Nat} {mc : Int32} {th : Nat} {lf : Value} {hd : Option Nat} {tl : Option Nat} (F : JF K) (T : LmR K t hE m D ea ka ta nx bf af tb n f es ks vs sz mc th lf hd tl) (W : LmW D ea nx bf af tb n f th hd tl) (hsz : sz = D.length) :
    Ct K l yJ2_clear wJ2_clear 1 [.ref m] hE (jRv (fun h' => ∃ f', LmS K t 0 hE h' m ([]) ea ka ta nx bf af tb n (f') es ks vs (0) (mc + nI 1) th lf (none) (none) ∧ LmW [] ea nx bf af tb n f' th none none)) jNo := by
  refine st_J2_clear (ls := [some (.ref m)]) F rfl (body := fun M X => ?_)
  refine J.aload0 X dJ2_clear_0 ?_
  refine J.callSUv X dJ2_clear_1 lk_J2_110 ce_J1_clear (hm_clear F T W hsz) (by decide) rfl (T.1.1) rfl (fun h' e _ => ?_)
  obtain ⟨f', S, hf⟩ := e
  refine J.aload0 X dJ2_clear_4 ?_
  refine J.aload0 X dJ2_clear_5 ?_
  refine J.aconst_null X dJ2_clear_6 ?_
  refine J.dup_x1 X dJ2_clear_7 ?_
  refine J.lm_tl (x := none) X dJ2_clear_8 (pl_J2_11_J2 _) S rfl (fun h2 S2 => ?_)
  refine J.lm_hd (x := none) X dJ2_clear_11 (pl_J2_7_J2 _) S2 rfl (fun h3 S3 => ?_)
  refine J.vreturn X dJ2_clear_14 (jRv.of ?_)
  refine ⟨f', S3.subD (fun x hx => by cases hx), List.nodup_nil, trivial, rfl, rfl, ?_⟩
  rcases W.2.2.2.2 with ⟨htb, hn, hth, hQ⟩ | ⟨tA, q, B, htb, h4, h10, hn, hth, hB⟩
  · exact Or.inl ⟨htb, hn, hth, rfl⟩
  · exact Or.inr ⟨tA, q, fun _ => [], htb, h4, h10, hn, hth, fun j hj => ⟨hf j hj, rfl, List.nodup_nil, fun k => by simp⟩⟩
/-- A MAP, AS ITS CALLERS SEE IT: the keys in their order, where the entries, keys and values lie; n the table's size, mc its count of changes -/
def LM (K : JK) (t : Nat) (h : JIH) (m : Nat) (Q : List Nat) (ea ka ta : Nat → Nat) (n : Nat) (mc : Int32) : Prop :=
  ∃ (nx bf af f : Nat → Option Nat) (tb es ks vs hd tl : Option Nat) (th : Nat) (lf : Value), LmR K t h m Q ea ka ta nx bf af tb n f es ks vs Q.length mc th lf hd tl ∧ LmW Q ea nx bf af tb n f th hd tl ∧ ∀ k ∈ Q, IsKey h (ka k) k
section
variable {K : JK} {l : Launch} {t : Nat} {h h' hE : JIH} {m : Nat} {Q : List Nat} {ea ka ta : Nat → Nat} {n : Nat} {mc : Int32}
theorem LM.fr {T : Nat → Prop} (S : LM K t h m Q ea ka ta n mc) (g : Fr T h h') (ht : ¬ T t) (h1 : ¬ T 1) : LM K t h' m Q ea ka ta n mc := by
  obtain ⟨nx, bf, af, f, tb, es, ks, vs, hd, tl, th, lf, R, W, hK⟩ := S
  exact ⟨nx, bf, af, f, tb, es, ks, vs, hd, tl, th, lf, R.fr g ht, W, fun k hk => (hK k hk).fr g h1⟩
theorem LM.congr {ka' ta' : Nat → Nat} (S : LM K t h m Q ea ka ta n mc) (g : ∀ k ∈ Q, ka' k = ka k ∧ ta' k = ta k) : LM K t h m Q ea ka' ta' n mc := by
  obtain ⟨nx, bf, af, f, tb, es, ks, vs, hd, tl, th, lf, R, W, hK⟩ := S
  refine ⟨nx, bf, af, f, tb, es, ks, vs, hd, tl, th, lf, ⟨R.1, fun k hk => ⟨(R.2.1 k hk).1, ?_⟩, R.2.2⟩, W, fun k hk => by rw [(g k hk).1]; exact hK k hk⟩
  have e : enO ea ka' ta' nx bf af k = enO ea ka ta nx bf af k := by unfold enO; rw [(g k hk).1, (g k hk).2]
  rw [e]; exact (R.2.1 k hk).2
theorem LM.nodup (S : LM K t h m Q ea ka ta n mc) : Q.Nodup := by
  obtain ⟨nx, bf, af, f, tb, es, ks, vs, hd, tl, th, lf, R, W, hK⟩ := S
  exact W.1
theorem LM.lt (S : LM K t h m Q ea ka ta n mc) {k : Nat} (hk : k ∈ Q) : k < 400 := by
  obtain ⟨nx, bf, af, f, tb, es, ks, vs, hd, tl, th, lf, R, W, hK⟩ := S
  exact (R.2.1 k hk).1
theorem LM.len (S : LM K t h m Q ea ka ta n mc) : Q.length ≤ 400 := nodup_lt S.nodup (fun _ hk => S.lt hk)
theorem LM.key (S : LM K t h m Q ea ka ta n mc) {k : Nat} (hk : k ∈ Q) : IsKey h (ka k) k := by
  obtain ⟨nx, bf, af, f, tb, es, ks, vs, hd, tl, th, lf, R, W, hK⟩ := S
  exact hK k hk
theorem LM.ent (S : LM K t h m Q ea ka ta n mc) {k : Nat} (hk : k ∈ Q) : ∃ x3 x4 x5, hc h t (ea k) (jO 13 [.int (nI (hsh k)), .ref (ka k), .ref (ta k), x3, x4, x5]) := by
  obtain ⟨nx, bf, af, f, tb, es, ks, vs, hd, tl, th, lf, R, W, hK⟩ := S
  exact ⟨_, _, _, (R.2.1 k hk).2⟩
theorem LM.ob (S : LM K t h m Q ea ka ta n mc) : ∃ fs, hc h t m (jO 12 fs) := by
  obtain ⟨nx, bf, af, f, tb, es, ks, vs, hd, tl, th, lf, R, W, hK⟩ := S
  exact ⟨_, R.1⟩
theorem LM.n1 (S : LM K t h m Q ea ka ta n mc) : n ≤ 1024 := by
  obtain ⟨nx, bf, af, f, tb, es, ks, vs, hd, tl, th, lf, R, W, hK⟩ := S
  rcases W.2.2.2.2 with ⟨-, hn, -⟩ | ⟨tA, q, B, htb, h4, h10, hn, -⟩
  · omega
  · have := pow_le h4 h10; omega
/-- an empty map -/
theorem LM.nil {lf : Value} (g : hc h t m (jO 12 [.null, .null, .int 0, .int 0, .int 0, lf, .null, .null, .null, .null, .int 0, .int 0])) (ea ka ta : Nat → Nat) : LM K t h m [] ea ka ta 0 0 :=
  ⟨fun _ => none, fun _ => none, fun _ => none, fun _ => none, none, none, none, none, none, none, 0, lf, ⟨g, fun k hk => (by cases hk), fun a ha => (by cases ha), fun a ha => (by cases ha), fun a ha => (by cases ha), fun a ha => (by cases ha)⟩, ⟨List.nodup_nil, trivial, rfl, rfl, Or.inl ⟨rfl, rfl, rfl, rfl⟩⟩, fun k hk => (by cases hk)⟩
theorem c_put (F : JF K) (T : LM K t hE m Q ea ka ta n mc) {a v k : Nat} (g : IsKey hE a k) (hk : k ∉ Q) (ht : t ≠ 1) (hr : hres hE + 8192 ≤ jRL) :
    Ct K l yJ1_put wJ1_put 6 [.ref m, .ref a, .ref v] hE (jRa (fun r h' => r = none ∧ ∃ a' n', LM K t h' m (Q ++ [k]) (va_up ea k a') (va_up ka k a) (va_up ta k v) n' (mc + nI 1) ∧ Fr (fun x => x = t) hE h' ∧ n ≤ n' ∧ hres h' + 3 * n ≤ hres hE + 14 + 3 * n')) jNo := by
  obtain ⟨nx, bf, af, f, tb, es, ks, vs, hd, tl, th, lf, R, W, hK⟩ := T
  refine st_J1_put (ls := [some (.ref m), some (.ref a), some (.ref v)]) F rfl (body := fun M X => ?_)
  refine J.aload0 X dJ1_put_0 ?_
  refine J.aload1 X dJ1_put_1 ?_
  refine J.callSi X dJ1_put_2 lk_J1_149 ce_J1_hash (hm_hash F g) (by decide) rfl (fun r h' e _ => ?_)
  obtain ⟨rfl, rfl⟩ := e
  refine J.aload1 X dJ1_put_5 ?_
  refine J.aload2 X dJ1_put_6 ?_
  refine J.iconst (v := nI 0) X dJ1_put_7 (by decide) ?_
  refine J.iconst (v := nI 1) X dJ1_put_8 (by decide) ?_
  refine J.callVa X dJ1_put_9 lk_J1_152_J2 ce_J1_putVal (lm_putVal F R W rfl g.1 hk hr) (by decide) rfl (R.1.1) rfl (fun r h' e _ => ?_)
  obtain ⟨rfl, a', n', th', nx', bf', af', f', tb', hd', tl', R', W', f1, h1, h2⟩ := e
  refine J.areturnO X dJ1_put_12 (jRa.ofN ?_)
  refine ⟨rfl, a', n', ⟨nx', bf', af', f', tb', es, ks, vs, hd', tl', th', lf, ?_, W', fun j hj => ?_⟩, f1, h1, h2⟩
  · rw [List.length_append]; exact R'
  · rcases List.mem_append.mp hj with hj | hj
    · rw [va_up_ne _ _ (fun e => hk (by rw [← e]; exact hj))]
      exact (hK j hj).fr f1 (fun z => ht z.symm)
    · rw [List.mem_singleton.mp hj, va_up_self]
      exact g.fr f1 (fun z => ht z.symm)
theorem c_get (F : JF K) (T : LM K t hE m Q ea ka ta n mc) {a k : Nat} (g : IsKey hE a k) : Ct K l yJ2_get wJ2_get 3 [.ref m, .ref a] hE (jRa (fun r h' => r = (if k ∈ Q then some (ta k) else none) ∧ hE = h')) jNo := by
  obtain ⟨nx, bf, af, f, tb, es, ks, vs, hd, tl, th, lf, R, W, hK⟩ := T
  exact lm_get F R W hK g
theorem c_has (F : JF K) (T : LM K t hE m Q ea ka ta n mc) {a k : Nat} (g : IsKey hE a k) : Ct K l yJ1_containsKey wJ1_containsKey 3 [.ref m, .ref a] hE (jRi (fun r h' => r = jB (k ∈ Q) ∧ hE = h')) jNo := by
  obtain ⟨nx, bf, af, f, tb, es, ks, vs, hd, tl, th, lf, R, W, hK⟩ := T
  exact lm_has F R W hK g
theorem c_size (F : JF K) (T : LM K t hE m Q ea ka ta n mc) : Ct K l yJ1_size wJ1_size 0 [.ref m] hE (jRi (fun r h' => r = nI Q.length ∧ hE = h')) jNo := by
  obtain ⟨nx, bf, af, f, tb, es, ks, vs, hd, tl, th, lf, R, W, hK⟩ := T
  exact lm_size F R
theorem c_remove (F : JF K) (T : LM K t hE m Q ea ka ta n mc) {a k : Nat} (g : IsKey hE a k) (ht : t ≠ 1) : Ct K l yJ1_remove wJ1_remove 4 [.ref m, .ref a] hE (jRa (fun r h' => (k ∉ Q ∧ r = none ∧ hE = h') ∨ (k ∈ Q ∧ r = some (ta k) ∧ LM K t h' m (Q.erase k) ea ka ta n (mc + nI 1) ∧ Fr (fun x => x = t) hE h' ∧ hres h' = hres hE))) jNo := by
  obtain ⟨nx, bf, af, f, tb, es, ks, vs, hd, tl, th, lf, R, W, hK⟩ := T
  refine (lm_remove F R W hK rfl g).weaken (fun r h' z => ?_) (fun _ _ _ z => z)
  obtain ⟨r, rfl, z⟩ := z
  refine ⟨r, rfl, ?_⟩
  rcases z with ⟨z1, z2, z3⟩ | ⟨z1, z2, nx', bf', af', f', hd', tl', S, W'⟩
  · exact Or.inl ⟨z1, z2, z3⟩
  · refine Or.inr ⟨z1, z2, ⟨nx', bf', af', f', tb, es, ks, vs, hd', tl', th, lf, ?_, W', fun j hj => ?_⟩, S.2.1, S.2.2⟩
    · rw [List.length_erase_of_mem z1]
      exact S.1.subD (fun x hx => List.mem_of_mem_erase hx)
    · exact (hK j (List.mem_of_mem_erase hj)).fr S.2.1 (fun z => ht z.symm)
theorem c_clear (F : JF K) (T : LM K t hE m Q ea ka ta n mc) : Ct K l yJ2_clear wJ2_clear 1 [.ref m] hE (jRv (fun h' => LM K t h' m [] ea ka ta n (mc + nI 1) ∧ Fr (fun x => x = t) hE h' ∧ hres h' = hres hE)) jNo := by
  obtain ⟨nx, bf, af, f, tb, es, ks, vs, hd, tl, th, lf, R, W, hK⟩ := T
  refine (lm_clear F R W rfl).weaken (fun r h' z => ?_) (fun _ _ _ z => z)
  obtain ⟨rfl, f', S, W'⟩ := z
  exact ⟨rfl, ⟨nx, bf, af, f', tb, es, ks, vs, none, none, th, lf, S.1, W', fun k hk => by cases hk⟩, S.2.1, S.2.2⟩
theorem c_setEntry (F : JF K) (T : LM K t hE m Q ea ka ta n mc) (ht : t ≠ 1) (hr : hres hE + 10 ≤ jRL) : Ct K l yJ2_entrySet wJ2_entrySet 5 [.ref m] hE (jRa (fun r h' => ∃ v, r = some v ∧ hc h' t v (jO 19 [.int (nI 0), .ref m]) ∧ LM K t h' m Q ea ka ta n mc ∧ Fr (fun x => x = t) hE h' ∧ hres h' ≤ hres hE + 10)) jNo := by
  obtain ⟨nx, bf, af, f, tb, es, ks, vs, hd, tl, th, lf, R, W, hK⟩ := T
  refine (lm_setEntry F R hr).weaken (fun r h' z => ?_) (fun _ _ _ z => z)
  obtain ⟨r, rfl, v, c, rfl, hc, S⟩ := z
  refine ⟨_, rfl, v, rfl, S.1.2.2.2.1 v rfl, ⟨nx, bf, af, f, tb, _, _, _, hd, tl, th, lf, S.1, W, fun j hj => (hK j hj).fr S.2.1 (fun z => ht z.symm)⟩, S.2.1, by rw [S.2.2]; omega⟩
theorem c_setKey (F : JF K) (T : LM K t hE m Q ea ka ta n mc) (ht : t ≠ 1) (hr : hres hE + 10 ≤ jRL) : Ct K l yJ2_keySet wJ2_keySet 5 [.ref m] hE (jRa (fun r h' => ∃ v, r = some v ∧ hc h' t v (jO 20 [.int (nI 0), .ref m]) ∧ LM K t h' m Q ea ka ta n mc ∧ Fr (fun x => x = t) hE h' ∧ hres h' ≤ hres hE + 10)) jNo := by
  obtain ⟨nx, bf, af, f, tb, es, ks, vs, hd, tl, th, lf, R, W, hK⟩ := T
  refine (lm_setKey F R hr).weaken (fun r h' z => ?_) (fun _ _ _ z => z)
  obtain ⟨r, rfl, v, c, rfl, hc, S⟩ := z
  refine ⟨_, rfl, v, rfl, S.1.2.2.2.2.1 v rfl, ⟨nx, bf, af, f, tb, _, _, _, hd, tl, th, lf, S.1, W, fun j hj => (hK j hj).fr S.2.1 (fun z => ht z.symm)⟩, S.2.1, by rw [S.2.2]; omega⟩
theorem c_setVal (F : JF K) (T : LM K t hE m Q ea ka ta n mc) (ht : t ≠ 1) (hr : hres hE + 10 ≤ jRL) : Ct K l yJ2_values wJ2_values 5 [.ref m] hE (jRa (fun r h' => ∃ v, r = some v ∧ hc h' t v (jO 21 [.int (nI 0), .ref m]) ∧ LM K t h' m Q ea ka ta n mc ∧ Fr (fun x => x = t) hE h' ∧ hres h' ≤ hres hE + 10)) jNo := by
  obtain ⟨nx, bf, af, f, tb, es, ks, vs, hd, tl, th, lf, R, W, hK⟩ := T
  refine (lm_setVal F R hr).weaken (fun r h' z => ?_) (fun _ _ _ z => z)
  obtain ⟨r, rfl, v, c, rfl, hc, S⟩ := z
  refine ⟨_, rfl, v, rfl, S.1.2.2.2.2.2 v rfl, ⟨nx, bf, af, f, tb, _, _, _, hd, tl, th, lf, S.1, W, fun j hj => (hK j hj).fr S.2.1 (fun z => ht z.symm)⟩, S.2.1, by rw [S.2.2]; omega⟩
theorem c_iterEntry (F : JF K) (T : LM K t hE m Q ea ka ta n mc) {v : Nat} (hv : hget hE v = some (jO 19 [.int (nI 0), .ref m])) (hr : hres hE + 13 ≤ jRL) :
    Ct K l yJ10_iterator wJ10_iterator 3 [.ref v] hE (jRa (fun r h' => r = some (hnew hE) ∧ h' = hpush hE 6 (jO 22 (itO (Q.head?.map ea) none mc m)))) jNo := by
  obtain ⟨nx, bf, af, f, tb, es, ks, vs, hd, tl, th, lf, R, W, hK⟩ := T
  rw [← W.2.2.1]
  exact vw_iterEntry F R hv hr
theorem c_iterKey (F : JF K) (T : LM K t hE m Q ea ka ta n mc) {v : Nat} (hv : hget hE v = some (jO 20 [.int (nI 0), .ref m])) (hr : hres hE + 13 ≤ jRL) :
    Ct K l yJ37_iterator wJ37_iterator 3 [.ref v] hE (jRa (fun r h' => r = some (hnew hE) ∧ h' = hpush hE 6 (jO 23 (itO (Q.head?.map ea) none mc m)))) jNo := by
  obtain ⟨nx, bf, af, f, tb, es, ks, vs, hd, tl, th, lf, R, W, hK⟩ := T
  rw [← W.2.2.1]
  exact vw_iterKey F R hv hr
theorem c_iterVal (F : JF K) (T : LM K t hE m Q ea ka ta n mc) {v : Nat} (hv : hget hE v = some (jO 21 [.int (nI 0), .ref m])) (hr : hres hE + 13 ≤ jRL) :
    Ct K l yJ42_iterator wJ42_iterator 3 [.ref v] hE (jRa (fun r h' => r = some (hnew hE) ∧ h' = hpush hE 6 (jO 24 (itO (Q.head?.map ea) none mc m)))) jNo := by
  obtain ⟨nx, bf, af, f, tb, es, ks, vs, hd, tl, th, lf, R, W, hK⟩ := T
  rw [← W.2.2.1]
  exact vw_iterVal F R hv hr
theorem c_nextEntry (F : JF K) {k : Nat} {l1 l2 : List Nat} (T : LM K t hE m Q ea ka ta n mc) (hQ : Q = l1 ++ k :: l2) {i : Nat} {cur : Option Nat} (hi : hget hE i = some (jO 22 (itO (some (ea k)) cur mc m))) :
    Ct K l yJ12_next wJ12_next 2 [.ref i] hE (jRa (fun r h' => r = some (ea k) ∧ h' = hset hE i (jO 22 (itO (l2.head?.map ea) (some (ea k)) mc m)))) jNo := by
  obtain ⟨nx, bf, af, f, tb, es, ks, vs, hd, tl, th, lf, R, W, hK⟩ := T
  have h1 := W.2.1
  rw [hQ] at h1
  rw [← Dl.af h1]
  exact it_nextEntry F R (by rw [hQ]; exact List.mem_append_right _ List.mem_cons_self) hi
theorem c_nextKey (F : JF K) {k : Nat} {l1 l2 : List Nat} (T : LM K t hE m Q ea ka ta n mc) (hQ : Q = l1 ++ k :: l2) {i : Nat} {cur : Option Nat} (hi : hget hE i = some (jO 23 (itO (some (ea k)) cur mc m))) :
    Ct K l yJ13_next wJ13_next 1 [.ref i] hE (jRa (fun r h' => r = some (ka k) ∧ h' = hset hE i (jO 23 (itO (l2.head?.map ea) (some (ea k)) mc m)))) jNo := by
  obtain ⟨nx, bf, af, f, tb, es, ks, vs, hd, tl, th, lf, R, W, hK⟩ := T
  have h1 := W.2.1
  rw [hQ] at h1
  rw [← Dl.af h1]
  exact it_nextKey F R (by rw [hQ]; exact List.mem_append_right _ List.mem_cons_self) hi
theorem c_nextVal (F : JF K) {k : Nat} {l1 l2 : List Nat} (T : LM K t hE m Q ea ka ta n mc) (hQ : Q = l1 ++ k :: l2) {i : Nat} {cur : Option Nat} (hi : hget hE i = some (jO 24 (itO (some (ea k)) cur mc m))) :
    Ct K l yJ43_next wJ43_next 1 [.ref i] hE (jRa (fun r h' => r = some (ta k) ∧ h' = hset hE i (jO 24 (itO (l2.head?.map ea) (some (ea k)) mc m)))) jNo := by
  obtain ⟨nx, bf, af, f, tb, es, ks, vs, hd, tl, th, lf, R, W, hK⟩ := T
  have h1 := W.2.1
  rw [hQ] at h1
  rw [← Dl.af h1]
  exact it_nextVal F R (by rw [hQ]; exact List.mem_append_right _ List.mem_cons_self) hi
theorem c_itRemove (F : JF K) (T : LM K t hE m Q ea ka ta n mc) {i k : Nat} {nxt : Option Nat} (hk : k ∈ Q) (hi : hc hE 6 i (jO 22 (itO nxt (some (ea k)) mc m))) (ht : t ≠ 6) (ht1 : t ≠ 1) :
    Ct K l yJ11_remove wJ11_remove 4 [.ref i] hE (jRv (fun h' => LM K t h' m (Q.erase k) ea ka ta n (mc + nI 1) ∧ Fr (fun x => x = t ∨ x = 6) hE h' ∧ hres h' = hres hE)) jNo := by
  obtain ⟨nx, bf, af, f, tb, es, ks, vs, hd, tl, th, lf, R, W, hK⟩ := T
  refine (it_remove F R W hK rfl hk hi ht).weaken (fun r h' z => ?_) (fun _ _ _ z => z)
  obtain ⟨rfl, nx', bf', af', f', hd', tl', R', W', f1, h1⟩ := z
  refine ⟨rfl, ⟨nx', bf', af', f', tb, es, ks, vs, hd', tl', th, lf, ?_, W', fun j hj => (hK j (List.mem_of_mem_erase hj)).fr f1 (fun z => z.elim (fun z => ht1 z.symm) (by decide))⟩, f1, h1⟩
  rw [List.length_erase_of_mem hk]
  exact R'.subD (fun x hx => List.mem_of_mem_erase hx)
end
