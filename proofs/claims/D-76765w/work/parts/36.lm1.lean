/-! LinkedHashMap: small ones -/
theorem hset_push_new (h : JIH) (t : Nat) (e0 e : va_E) : hset (hpush h t e0) (hnew h) e = hpush h t e := by
  have ht : htag (hpush h t e0) (hnew h) = t := htag_push_new h t e0
  unfold hset
  rw [if_pos (show (hpush h t e0).1 ≤ hnew h from Nat.le_add_right _ _), ht]
  show (h.1, (h.2 ++ [(t, Sum.inl e0)]).set (hnew h - h.1) (t, Sum.inl e)) = (h.1, h.2 ++ [(t, Sum.inl e)])
  have : hnew h - h.1 = h.2.length := by unfold hnew; omega
  rw [this, List.set_append_right _ _ (Nat.le_refl _), Nat.sub_self]
  rfl
theorem ac_init {K : JK} {l : Launch} {hE : JIH} (F : JF K) (a : Nat) : Ct K l yJ3_init wJ3_init 1 [.ref a] hE (jRv (fun h' => hE = h')) jNo := by
  refine st_J3_init (ls := [some (.ref a)]) F rfl (body := fun M X => ?_)
  refine J.aload0 X dJ3_init_0 ?_
  refine J.objInit X dJ3_init_1 lk_J3_1 (by decide) ?_
  refine J.vreturn X dJ3_init_4 (jRv.of ?_)
  rfl
theorem as_init {K : JK} {l : Launch} {hE : JIH} (F : JF K) (a : Nat) : Ct K l yJ9_init wJ9_init 2 [.ref a] hE (jRv (fun h' => hE = h')) jNo := by
  refine st_J9_init (ls := [some (.ref a)]) F rfl (body := fun M X => ?_)
  refine J.aload0 X dJ9_init_0 ?_
  refine J.callI X dJ9_init_1 lk_J9_1 ce_J3_init (ac_init F a) (by decide) rfl (fun h' e _ => ?_)
  subst e
  refine J.vreturn X dJ9_init_4 (jRv.of ?_)
  rfl
theorem am_init {K : JK} {l : Launch} {hE : JIH} (F : JF K) (a : Nat) : Ct K l yJ0_init wJ0_init 1 [.ref a] hE (jRv (fun h' => hE = h')) jNo := by
  refine st_J0_init (ls := [some (.ref a)]) F rfl (body := fun M X => ?_)
  refine J.aload0 X dJ0_init_0 ?_
  refine J.objInit X dJ0_init_1 lk_J0_1 (by decide) ?_
  refine J.vreturn X dJ0_init_4 (jRv.of ?_)
  rfl
/-- a map as it is made -/
theorem hm_init {K : JK} {l : Launch} {hE : JIH} (F : JF K) {m : Nat} {x0 x1 x2 x3 x4 x5 x6 x7 x8 x9 x10 x11 : Value} (hf : hget hE m = some (jO 12 [x0, x1, x2, x3, x4, x5, x6, x7, x8, x9, x10, x11])) :
    Ct K l yJ1_init wJ1_init 2 [.ref m] hE (jRv (fun h' => h' = hset hE m (jO 12 [x0, x1, x2, x3, x4, .float 1061158912, x6, x7, x8, x9, x10, x11]))) jNo := by
  refine st_J1_init (ls := [some (.ref m)]) F rfl (body := fun M X => ?_)
  refine J.aload0 X dJ1_init_0 ?_
  refine J.callI X dJ1_init_1 lk_J1_43 ce_J0_init (am_init F m) (by decide) rfl (fun h' e _ => ?_)
  subst e
  refine J.aload0 X dJ1_init_4 ?_
  refine J.ldcf (v := 1061158912) X dJ1_init_5 q164 ?_
  refine J.fresh hf ?_
  refine J.putfS X dJ1_init_7 pl_J1_81_J2 (hf) (Nat.le_of_ble_eq_true rfl) (rfl) (rfl) ?_
  refine J.vreturn X dJ1_init_10 (jRv.of ?_)
  rfl
theorem lh_init {K : JK} {l : Launch} {hE : JIH} (F : JF K) {m : Nat} (hf : hget hE m = some (jO 12 [.null, .null, .int 0, .int 0, .int 0, .float 0, .null, .null, .null, .null, .int 0, .int 0])) :
    Ct K l yJ2_init wJ2_init 3 [.ref m] hE (jRv (fun h' => ∃ lf, h' = hset hE m (jO 12 [.null, .null, .int 0, .int 0, .int 0, lf, .null, .null, .null, .null, .int 0, .int 0]))) jNo := by
  refine st_J2_init (ls := [some (.ref m)]) F rfl (body := fun M X => ?_)
  refine J.aload0 X dJ2_init_0 ?_
  refine J.callI X dJ2_init_1 lk_J2_87 ce_J1_init (hm_init F hf) (by decide) rfl (fun h' e _ => ?_)
  subst e
  refine J.aload0 X dJ2_init_4 ?_
  refine J.iconst (v := nI 0) X dJ2_init_5 (by decide) ?_
  refine J.putfS X dJ2_init_6 (pl_J2_1_J2 _) (hf) (Nat.le_of_ble_eq_true rfl) (rfl) (rfl) ?_
  refine J.aload0 X dJ2_init_9 ?_
  refine J.iconst (v := nI 0) X dJ2_init_10 (by decide) ?_
  refine J.putfS X dJ2_init_11 pl_J2_64_J2 (hf) (Nat.le_of_ble_eq_true rfl) (rfl) (rfl) ?_
  refine J.vreturn X dJ2_init_14 (jRv.of ?_)
  exact ⟨_, rfl⟩
theorem en_init {K : JK} {l : Launch} {hE : JIH} (F : JF K) {a : Nat} {x0 x1 x2 x3 x4 x5 : Value} (hf : hget hE a = some (jO 13 [x0, x1, x2, x3, x4, x5])) (s : Int32) (k v : Nat) :
    Ct K l yJ33_init wJ33_init 1 [.ref a, .int s, .ref k, .ref v, .null] hE (jRv (fun h' => h' = hset hE a (jO 13 [.int s, .ref k, .ref v, .null, x4, x5]))) jNo := by
  refine st_J33_init (ls := [some (.ref a), some (.int s), some (.ref k), some (.ref v), some (.null)]) F rfl (body := fun M X => ?_)
  refine J.fresh hf ?_
  refine J.aload0 X dJ33_init_0 ?_
  refine J.objInit X dJ33_init_1 lk_J33_1 (by decide) ?_
  refine J.aload0 X dJ33_init_4 ?_
  refine J.iload1 X dJ33_init_5 ?_
  refine J.putfS X dJ33_init_6 pl_J33_7_J34 (hf) (Nat.le_of_ble_eq_true rfl) (rfl) (rfl) ?_
  refine J.aload0 X dJ33_init_9 ?_
  refine J.aload2 X dJ33_init_10 ?_
  refine J.putfS X dJ33_init_11 pl_J33_13_J34 (hf) (Nat.le_of_ble_eq_true rfl) (rfl) (rfl) ?_
  refine J.aload0 X dJ33_init_14 ?_
  refine J.aload3 X dJ33_init_15 ?_
  refine J.putfS X dJ33_init_16 (pl_J33_17_J34 _) (hf) (Nat.le_of_ble_eq_true rfl) (rfl) (rfl) ?_
  refine J.aload0 X dJ33_init_19 ?_
  refine J.at (pc' := 20) rfl ?_
  refine J.aload4 X dJ33_init_20 ?_
  refine J.putfS X dJ33_init_22 (pl_J33_20_J34 _) (hf) (Nat.le_of_ble_eq_true rfl) (rfl) (rfl) ?_
  refine J.vreturn X dJ33_init_25 (jRv.of ?_)
  rfl
theorem en_init1 {K : JK} {l : Launch} {hE : JIH} (F : JF K) {a : Nat} {x0 x1 x2 x3 x4 x5 : Value} (hf : hget hE a = some (jO 13 [x0, x1, x2, x3, x4, x5])) (s : Int32) (k v : Nat) :
    Ct K l yJ34_init wJ34_init 2 [.ref a, .int s, .ref k, .ref v, .null] hE (jRv (fun h' => h' = hset hE a (jO 13 [.int s, .ref k, .ref v, .null, x4, x5]))) jNo := by
  refine st_J34_init (ls := [some (.ref a), some (.int s), some (.ref k), some (.ref v), some (.null)]) F rfl (body := fun M X => ?_)
  refine J.aload0 X dJ34_init_0 ?_
  refine J.iload1 X dJ34_init_1 ?_
  refine J.aload2 X dJ34_init_2 ?_
  refine J.aload3 X dJ34_init_3 ?_
  refine J.aload4 X dJ34_init_4 ?_
  refine J.callI X dJ34_init_6 lk_J34_1 ce_J33_init (en_init F hf s k v) (by decide) rfl (fun h' e _ => ?_)
  subst e
  refine J.vreturn X dJ34_init_9 (jRv.of ?_)
  rfl
/-! the views -/
theorem vw_init19 {K : JK} {l : Launch} {hE : JIH} (F : JF K) {a m : Nat} {x0 x1 : Value} (hf : hget hE a = some (jO 19 [x0, x1])) :
    Ct K l yJ10_init wJ10_init 3 [.ref a, .ref m, .int (nI 0)] hE (jRv (fun h' => h' = hset hE a (jO 19 [.int (nI 0), .ref m]))) jNo := by
  refine st_J10_init (ls := [some (.ref a), some (.ref m), some (.int (nI 0))]) F rfl (body := fun M X => ?_)
  refine J.fresh hf ?_
  refine J.aload0 X dJ10_init_0 ?_
  refine J.aload1 X dJ10_init_1 ?_
  refine J.putfS X dJ10_init_2 pl_J10_1_J10 (hf) (Nat.le_of_ble_eq_true rfl) (rfl) (rfl) ?_
  refine J.aload0 X dJ10_init_5 ?_
  refine J.callI X dJ10_init_6 lk_J10_7 ce_J9_init (as_init F a) (by decide) rfl (fun h' e _ => ?_)
  subst e
  refine J.aload0 X dJ10_init_9 ?_
  refine J.iload2 X dJ10_init_10 ?_
  refine J.putfS X dJ10_init_11 pl_J10_13_J10 (hf) (Nat.le_of_ble_eq_true rfl) (rfl) (rfl) ?_
  refine J.vreturn X dJ10_init_14 (jRv.of ?_)
  rfl
theorem vw_init20 {K : JK} {l : Launch} {hE : JIH} (F : JF K) {a m : Nat} {x0 x1 : Value} (hf : hget hE a = some (jO 20 [x0, x1])) :
    Ct K l yJ37_init wJ37_init 3 [.ref a, .ref m, .int (nI 0)] hE (jRv (fun h' => h' = hset hE a (jO 20 [.int (nI 0), .ref m]))) jNo := by
  refine st_J37_init (ls := [some (.ref a), some (.ref m), some (.int (nI 0))]) F rfl (body := fun M X => ?_)
  refine J.fresh hf ?_
  refine J.aload0 X dJ37_init_0 ?_
  refine J.aload1 X dJ37_init_1 ?_
  refine J.putfS X dJ37_init_2 pl_J37_1_J37 (hf) (Nat.le_of_ble_eq_true rfl) (rfl) (rfl) ?_
  refine J.aload0 X dJ37_init_5 ?_
  refine J.callI X dJ37_init_6 lk_J37_7 ce_J9_init (as_init F a) (by decide) rfl (fun h' e _ => ?_)
  subst e
  refine J.aload0 X dJ37_init_9 ?_
  refine J.iload2 X dJ37_init_10 ?_
  refine J.putfS X dJ37_init_11 pl_J37_13_J37 (hf) (Nat.le_of_ble_eq_true rfl) (rfl) (rfl) ?_
  refine J.vreturn X dJ37_init_14 (jRv.of ?_)
  rfl
theorem vw_init21 {K : JK} {l : Launch} {hE : JIH} (F : JF K) {a m : Nat} {x0 x1 : Value} (hf : hget hE a = some (jO 21 [x0, x1])) :
    Ct K l yJ42_init wJ42_init 3 [.ref a, .ref m, .int (nI 0)] hE (jRv (fun h' => h' = hset hE a (jO 21 [.int (nI 0), .ref m]))) jNo := by
  refine st_J42_init (ls := [some (.ref a), some (.ref m), some (.int (nI 0))]) F rfl (body := fun M X => ?_)
  refine J.fresh hf ?_
  refine J.aload0 X dJ42_init_0 ?_
  refine J.aload1 X dJ42_init_1 ?_
  refine J.putfS X dJ42_init_2 pl_J42_1_J42 (hf) (Nat.le_of_ble_eq_true rfl) (rfl) (rfl) ?_
  refine J.aload0 X dJ42_init_5 ?_
  refine J.callI X dJ42_init_6 lk_J42_7 ce_J3_init (ac_init F a) (by decide) rfl (fun h' e _ => ?_)
  subst e
  refine J.aload0 X dJ42_init_9 ?_
  refine J.iload2 X dJ42_init_10 ?_
  refine J.putfS X dJ42_init_11 pl_J42_13_J42 (hf) (Nat.le_of_ble_eq_true rfl) (rfl) (rfl) ?_
  refine J.vreturn X dJ42_init_14 (jRv.of ?_)
  rfl
theorem lm_seqEntry {K : JK} {l : Launch} {hE : JIH} {t m : Nat} {D : List Nat} {ea : Nat → Nat} {ka : Nat → Nat} {ta : Nat → Nat} {nx : Nat → Option Nat} {bf : Nat → Option Nat} {af : Nat → Option Nat} {tb : Option Nat} {n : Nat} {f : Nat → Option Nat} {es : Option Nat} {ks : Option Nat} {vs : Option Nat} {sz : Nat} {mc : Int32} {th : Nat} {lf : Value} {hd : Option Nat} {tl : Option Nat} (F : JF K) (T : LmR K t hE m D ea ka ta nx bf af tb n f es ks vs sz mc th lf hd tl) (hr : hres hE + 10 ≤ jRL) :
    Ct K l yJ2_sequencedEntrySet wJ2_sequencedEntrySet 4 [.ref m] hE (jRa (fun r h' => ∃ v c, r = some v ∧ c ≤ 10 ∧ LmS K t c hE h' m D ea ka ta nx bf af tb n f (some v) ks vs sz mc th lf hd tl)) jNo := by
  refine st_J2_sequencedEntrySet (ls := [some (.ref m), none, none]) F rfl (body := fun M X => ?_)
  have S := T.S
  refine J.aload0 X dJ2_sequencedEntrySet_0 ?_
  refine J.getf X dJ2_sequencedEntrySet_1 fl_J2_151_J2 (S.o) rfl ?_
  refine J.astore1 X dJ2_sequencedEntrySet_4 ?_
  refine J.aload1 X dJ2_sequencedEntrySet_5 ?_
  cases hb : es with
  | none =>
    refine J.ifnonnullN (a := 0) (tgt := 26) X dJ2_sequencedEntrySet_6 (by decide) ?_
    refine J.new (ci := 19) (t) X dJ2_sequencedEntrySet_9 jcl_19 cl_J2_154 rfl (hr) ?_
    replace S := S.push t (jO 19 [.int 0, .null])
    have cn := hc.new hE t (jO 19 [.int 0, .null])
    refine J.dup X dJ2_sequencedEntrySet_12 ?_
    refine J.aload0 X dJ2_sequencedEntrySet_13 ?_
    refine J.iconst (v := nI 0) X dJ2_sequencedEntrySet_14 (by decide) ?_
    refine J.callI X dJ2_sequencedEntrySet_15 lk_J2_156 ce_J10_init (vw_init19 F cn.1) (by decide) rfl (fun h' e _ => ?_)
    subst e
    rw [hset_push_new]
    have S2 := (T.push t (jO 19 [.int (nI 0), .ref m])).S
    have cn := hc.new hE t (jO 19 [.int (nI 0), .ref m])
    refine J.astore2 X dJ2_sequencedEntrySet_18 ?_
    refine J.aload0 X dJ2_sequencedEntrySet_19 ?_
    refine J.aload2 X dJ2_sequencedEntrySet_20 ?_
    refine J.lm_es X dJ2_sequencedEntrySet_21 (pl_J2_151_J2 _) S2 cn (fun h S2 => ?_)
    refine J.aload2 X dJ2_sequencedEntrySet_24 ?_
    refine J.areturnO X dJ2_sequencedEntrySet_25 (jRa.ofR ?_)
    refine ⟨_, 10, rfl, Nat.le_refl _, S2.1, (Fr.push _ _ _ _).tr S2.2.1, ?_⟩
    rw [S2.2.2, hres_push]
    rfl
  | some v =>
    refine J.ifnonnullR (tgt := 26) X dJ2_sequencedEntrySet_6 (by decide) ?_
    refine J.aload1 X dJ2_sequencedEntrySet_26 ?_
    refine J.castO X dJ2_sequencedEntrySet_27 cl_J2_126 jcl_19 q3033 ((S.1.2.2.2.1 v hb).1) ?_
    refine J.areturnO X dJ2_sequencedEntrySet_30 (jRa.ofR ?_)
    refine ⟨v, 0, rfl, Nat.zero_le _, ?_⟩
    rw [hb] at S
    exact S
theorem lm_seqKey {K : JK} {l : Launch} {hE : JIH} {t m : Nat} {D : List Nat} {ea : Nat → Nat} {ka : Nat → Nat} {ta : Nat → Nat} {nx : Nat → Option Nat} {bf : Nat → Option Nat} {af : Nat → Option Nat} {tb : Option Nat} {n : Nat} {f : Nat → Option Nat} {es : Option Nat} {ks : Option Nat} {vs : Option Nat} {sz : Nat} {mc : Int32} {th : Nat} {lf : Value} {hd : Option Nat} {tl : Option Nat} (F : JF K) (T : LmR K t hE m D ea ka ta nx bf af tb n f es ks vs sz mc th lf hd tl) (hr : hres hE + 10 ≤ jRL) :
    Ct K l yJ2_sequencedKeySet wJ2_sequencedKeySet 4 [.ref m] hE (jRa (fun r h' => ∃ v c, r = some v ∧ c ≤ 10 ∧ LmS K t c hE h' m D ea ka ta nx bf af tb n f es (some v) vs sz mc th lf hd tl)) jNo := by
  refine st_J2_sequencedKeySet (ls := [some (.ref m), none, none]) F rfl (body := fun M X => ?_)
  have S := T.S
  refine J.aload0 X dJ2_sequencedKeySet_0 ?_
  refine J.getf X dJ2_sequencedKeySet_1 fl_J2_117_J2 (S.o) rfl ?_
  refine J.astore1 X dJ2_sequencedKeySet_4 ?_
  refine J.aload1 X dJ2_sequencedKeySet_5 ?_
  cases hb : ks with
  | none =>
    refine J.ifnonnullN (a := 0) (tgt := 26) X dJ2_sequencedKeySet_6 (by decide) ?_
    refine J.new (ci := 20) (t) X dJ2_sequencedKeySet_9 jcl_20 cl_J2_121 rfl (hr) ?_
    replace S := S.push t (jO 20 [.int 0, .null])
    have cn := hc.new hE t (jO 20 [.int 0, .null])
    refine J.dup X dJ2_sequencedKeySet_12 ?_
    refine J.aload0 X dJ2_sequencedKeySet_13 ?_
    refine J.iconst (v := nI 0) X dJ2_sequencedKeySet_14 (by decide) ?_
    refine J.callI X dJ2_sequencedKeySet_15 lk_J2_123 ce_J37_init (vw_init20 F cn.1) (by decide) rfl (fun h' e _ => ?_)
    subst e
    rw [hset_push_new]
    have S2 := (T.push t (jO 20 [.int (nI 0), .ref m])).S
    have cn := hc.new hE t (jO 20 [.int (nI 0), .ref m])
    refine J.astore2 X dJ2_sequencedKeySet_18 ?_
    refine J.aload0 X dJ2_sequencedKeySet_19 ?_
    refine J.aload2 X dJ2_sequencedKeySet_20 ?_
    refine J.lm_ks X dJ2_sequencedKeySet_21 (pl_J2_117_J2 _) S2 cn (fun h S2 => ?_)
    refine J.aload2 X dJ2_sequencedKeySet_24 ?_
    refine J.areturnO X dJ2_sequencedKeySet_25 (jRa.ofR ?_)
    refine ⟨_, 10, rfl, Nat.le_refl _, S2.1, (Fr.push _ _ _ _).tr S2.2.1, ?_⟩
    rw [S2.2.2, hres_push]
    rfl
  | some v =>
    refine J.ifnonnullR (tgt := 26) X dJ2_sequencedKeySet_6 (by decide) ?_
    refine J.aload1 X dJ2_sequencedKeySet_26 ?_
    refine J.castO X dJ2_sequencedKeySet_27 cl_J2_126 jcl_20 q3034 ((S.1.2.2.2.2.1 v hb).1) ?_
    refine J.areturnO X dJ2_sequencedKeySet_30 (jRa.ofR ?_)
    refine ⟨v, 0, rfl, Nat.zero_le _, ?_⟩
    rw [hb] at S
    exact S
theorem lm_seqVal {K : JK} {l : Launch} {hE : JIH} {t m : Nat} {D : List Nat} {ea : Nat → Nat} {ka : Nat → Nat} {ta : Nat → Nat} {nx : Nat → Option Nat} {bf : Nat → Option Nat} {af : Nat → Option Nat} {tb : Option Nat} {n : Nat} {f : Nat → Option Nat} {es : Option Nat} {ks : Option Nat} {vs : Option Nat} {sz : Nat} {mc : Int32} {th : Nat} {lf : Value} {hd : Option Nat} {tl : Option Nat} (F : JF K) (T : LmR K t hE m D ea ka ta nx bf af tb n f es ks vs sz mc th lf hd tl) (hr : hres hE + 10 ≤ jRL) :
    Ct K l yJ2_sequencedValues wJ2_sequencedValues 4 [.ref m] hE (jRa (fun r h' => ∃ v c, r = some v ∧ c ≤ 10 ∧ LmS K t c hE h' m D ea ka ta nx bf af tb n f es ks (some v) sz mc th lf hd tl)) jNo := by
  refine st_J2_sequencedValues (ls := [some (.ref m), none, none]) F rfl (body := fun M X => ?_)
  have S := T.S
  refine J.aload0 X dJ2_sequencedValues_0 ?_
  refine J.getf X dJ2_sequencedValues_1 fl_J2_139_J2 (S.o) rfl ?_
  refine J.astore1 X dJ2_sequencedValues_4 ?_
  refine J.aload1 X dJ2_sequencedValues_5 ?_
  cases hb : vs with
  | none =>
    refine J.ifnonnullN (a := 0) (tgt := 26) X dJ2_sequencedValues_6 (by decide) ?_
    refine J.new (ci := 21) (t) X dJ2_sequencedValues_9 jcl_21 cl_J2_143 rfl (hr) ?_
    have cn := hc.new hE t (jO 21 [.int 0, .null])
    refine J.dup X dJ2_sequencedValues_12 ?_
    refine J.aload0 X dJ2_sequencedValues_13 ?_
    refine J.iconst (v := nI 0) X dJ2_sequencedValues_14 (by decide) ?_
    refine J.callI X dJ2_sequencedValues_15 lk_J2_145 ce_J42_init (vw_init21 F cn.1) (by decide) rfl (fun h' e _ => ?_)
    subst e
    rw [hset_push_new]
    have S2 := (T.push t (jO 21 [.int (nI 0), .ref m])).S
    have cn := hc.new hE t (jO 21 [.int (nI 0), .ref m])
    refine J.astore2 X dJ2_sequencedValues_18 ?_
    refine J.aload0 X dJ2_sequencedValues_19 ?_
    refine J.aload2 X dJ2_sequencedValues_20 ?_
    refine J.lm_vs X dJ2_sequencedValues_21 (pl_J2_139_J2 _) S2 cn (fun h S2 => ?_)
    refine J.aload2 X dJ2_sequencedValues_24 ?_
    refine J.areturnO X dJ2_sequencedValues_25 (jRa.ofR ?_)
    refine ⟨_, 10, rfl, Nat.le_refl _, S2.1, (Fr.push _ _ _ _).tr S2.2.1, ?_⟩
    rw [S2.2.2, hres_push]
    rfl
  | some v =>
    refine J.ifnonnullR (tgt := 26) X dJ2_sequencedValues_6 (by decide) ?_
    refine J.aload1 X dJ2_sequencedValues_26 ?_
    refine J.castO X dJ2_sequencedValues_27 cl_J2_146 jcl_21 q3039 ((S.1.2.2.2.2.2 v hb).1) ?_
    refine J.areturnO X dJ2_sequencedValues_30 (jRa.ofR ?_)
    refine ⟨v, 0, rfl, Nat.zero_le _, ?_⟩
    rw [hb] at S
    exact S
theorem lm_setEntry {K : JK} {l : Launch} {hE : JIH} {t m : Nat} {D : List Nat} {ea : Nat → Nat} {ka : Nat → Nat} {ta : Nat → Nat} {nx : Nat → Option Nat} {bf : Nat → Option Nat} {af : Nat → Option Nat} {tb : Option Nat} {n : Nat} {f : Nat → Option Nat} {es : Option Nat} {ks : Option Nat} {vs : Option Nat} {sz : Nat} {mc : Int32} {th : Nat} {lf : Value} {hd : Option Nat} {tl : Option Nat} (F : JF K) (T : LmR K t hE m D ea ka ta nx bf af tb n f es ks vs sz mc th lf hd tl) (hr : hres hE + 10 ≤ jRL) :
    Ct K l yJ2_entrySet wJ2_entrySet 5 [.ref m] hE (jRa (fun r h' => ∃ v c, r = some v ∧ c ≤ 10 ∧ LmS K t c hE h' m D ea ka ta nx bf af tb n f (some v) ks vs sz mc th lf hd tl)) jNo := by
  refine st_J2_entrySet (ls := [some (.ref m)]) F rfl (body := fun M X => ?_)
  refine J.aload0 X dJ2_entrySet_0 ?_
  refine J.callVa X dJ2_entrySet_1 lk_J2_148_J2 ce_J2_sequencedEntrySet (lm_seqEntry F T hr) (by decide) rfl (T.1.1) rfl (fun r h' e _ => ?_)
  refine J.areturnO X dJ2_entrySet_4 (jRa.of ?_)
  exact e
theorem lm_setKey {K : JK} {l : Launch} {hE : JIH} {t m : Nat} {D : List Nat} {ea : Nat → Nat} {ka : Nat → Nat} {ta : Nat → Nat} {nx : Nat → Option Nat} {bf : Nat → Option Nat} {af : Nat → Option Nat} {tb : Option Nat} {n : Nat} {f : Nat → Option Nat} {es : Option Nat} {ks : Option Nat} {vs : Option Nat} {sz : Nat} {mc : Int32} {th : Nat} {lf : Value} {hd : Option Nat} {tl : Option Nat} (F : JF K) (T : LmR K t hE m D ea ka ta nx bf af tb n f es ks vs sz mc th lf hd tl) (hr : hres hE + 10 ≤ jRL) :
    Ct K l yJ2_keySet wJ2_keySet 5 [.ref m] hE (jRa (fun r h' => ∃ v c, r = some v ∧ c ≤ 10 ∧ LmS K t c hE h' m D ea ka ta nx bf af tb n f es (some v) vs sz mc th lf hd tl)) jNo := by
  refine st_J2_keySet (ls := [some (.ref m)]) F rfl (body := fun M X => ?_)
  refine J.aload0 X dJ2_keySet_0 ?_
  refine J.callVa X dJ2_keySet_1 lk_J2_113_J2 ce_J2_sequencedKeySet (lm_seqKey F T hr) (by decide) rfl (T.1.1) rfl (fun r h' e _ => ?_)
  refine J.areturnO X dJ2_keySet_4 (jRa.of ?_)
  exact e
theorem lm_setVal {K : JK} {l : Launch} {hE : JIH} {t m : Nat} {D : List Nat} {ea : Nat → Nat} {ka : Nat → Nat} {ta : Nat → Nat} {nx : Nat → Option Nat} {bf : Nat → Option Nat} {af : Nat → Option Nat} {tb : Option Nat} {n : Nat} {f : Nat → Option Nat} {es : Option Nat} {ks : Option Nat} {vs : Option Nat} {sz : Nat} {mc : Int32} {th : Nat} {lf : Value} {hd : Option Nat} {tl : Option Nat} (F : JF K) (T : LmR K t hE m D ea ka ta nx bf af tb n f es ks vs sz mc th lf hd tl) (hr : hres hE + 10 ≤ jRL) :
    Ct K l yJ2_values wJ2_values 5 [.ref m] hE (jRa (fun r h' => ∃ v c, r = some v ∧ c ≤ 10 ∧ LmS K t c hE h' m D ea ka ta nx bf af tb n f es ks (some v) sz mc th lf hd tl)) jNo := by
  refine st_J2_values (ls := [some (.ref m)]) F rfl (body := fun M X => ?_)
  refine J.aload0 X dJ2_values_0 ?_
  refine J.callVa X dJ2_values_1 lk_J2_135_J2 ce_J2_sequencedValues (lm_seqVal F T hr) (by decide) rfl (T.1.1) rfl (fun r h' e _ => ?_)
  refine J.areturnO X dJ2_values_4 (jRa.of ?_)
  exact e
/-! iterators -/
def itO (nxt cur : Option Nat) (mc : Int32) (m : Nat) : List Value := [va_rf nxt, va_rf cur, .int mc, .int (nI 0), .ref m]
theorem it_init0Entry {K : JK} {l : Launch} {hE : JIH} {t m : Nat} {D : List Nat} {ea : Nat → Nat} {ka : Nat → Nat} {ta : Nat → Nat} {nx : Nat → Option Nat} {bf : Nat → Option Nat} {af : Nat → Option Nat} {tb : Option Nat} {n : Nat} {f : Nat → Option Nat} {es : Option Nat} {ks : Option Nat} {vs : Option Nat} {sz : Nat} {mc : Int32} {th : Nat} {lf : Value} {hd : Option Nat} {tl : Option Nat} (F : JF K) (T : LmR K t hE m D ea ka ta nx bf af tb n f es ks vs sz mc th lf hd tl) {a : Nat} {x0 x1 x2 x3 x4 : Value} (hf : hget hE a = some (jO 22 [x0, x1, x2, x3, x4])) :
    Ct K l yJ11_init wJ11_init 1 [.ref a, .ref m, .int (nI 0)] hE (jRv (fun h' => h' = hset hE a (jO 22 (itO (hd.map ea) none mc m)))) jNo := by
  have hne : a ≠ m := fun z => by
    subst z
    exact jO_ne (by decide) (Option.some.inj (hf.symm.trans T.1.1))
  refine st_J11_init (ls := [some (.ref a), some (.ref m), some (.int (nI 0))]) F rfl (body := fun M X => ?_)
  refine J.fresh hf ?_
  refine J.aload0 X dJ11_init_0 ?_
  refine J.aload1 X dJ11_init_1 ?_
  refine J.putfS X dJ11_init_2 pl_J11_1_J12 (hf) (Nat.le_of_ble_eq_true rfl) (rfl) (rfl) ?_
  refine J.aload0 X dJ11_init_5 ?_
  refine J.objInit X dJ11_init_6 lk_J11_7 (by decide) ?_
  refine J.aload0 X dJ11_init_9 ?_
  refine J.iload2 X dJ11_init_10 ?_
  refine J.putfS X dJ11_init_11 (pl_J11_13_J12 _) (hf) (Nat.le_of_ble_eq_true rfl) (rfl) (rfl) ?_
  refine J.aload0 X dJ11_init_14 ?_
  refine J.iload2 X dJ11_init_15 ?_
  refine J.if_eqN (tgt := 26) X dJ11_init_16 (by decide) (by omega) (fun _ => ?_) (fun q9 => absurd q9 (by omega))
  refine J.aload1 X dJ11_init_26 ?_
  refine J.getf X dJ11_init_27 fl_J11_23_J2 ((hget_set_ne _ hne).trans T.1.1) rfl ?_
  refine J.putfS X dJ11_init_30 (pl_J11_26_J12 _) (hf) (Nat.le_of_ble_eq_true rfl) (nar_rf _ _) (fit_rf _ _) ?_
  refine J.aload0 X dJ11_init_33 ?_
  refine J.aload1 X dJ11_init_34 ?_
  refine J.getf X dJ11_init_35 fl_J11_29_J2 ((hget_set_ne _ hne).trans T.1.1) rfl ?_
  refine J.putfS X dJ11_init_38 (pl_J11_33_J12 _) (hf) (Nat.le_of_ble_eq_true rfl) (rfl) (rfl) ?_
  refine J.aload0 X dJ11_init_41 ?_
  refine J.aconst_null X dJ11_init_42 ?_
  refine J.putfS X dJ11_init_43 (pl_J11_36_J12 _) (hf) (Nat.le_of_ble_eq_true rfl) (rfl) (rfl) ?_
  refine J.vreturn X dJ11_init_46 (jRv.of ?_)
  rfl
theorem it_initEntry {K : JK} {l : Launch} {hE : JIH} {t m : Nat} {D : List Nat} {ea : Nat → Nat} {ka : Nat → Nat} {ta : Nat → Nat} {nx : Nat → Option Nat} {bf : Nat → Option Nat} {af : Nat → Option Nat} {tb : Option Nat} {n : Nat} {f : Nat → Option Nat} {es : Option Nat} {ks : Option Nat} {vs : Option Nat} {sz : Nat} {mc : Int32} {th : Nat} {lf : Value} {hd : Option Nat} {tl : Option Nat} (F : JF K) (T : LmR K t hE m D ea ka ta nx bf af tb n f es ks vs sz mc th lf hd tl) {a : Nat} {x0 x1 x2 x3 x4 : Value} (hf : hget hE a = some (jO 22 [x0, x1, x2, x3, x4])) :
    Ct K l yJ12_init wJ12_init 2 [.ref a, .ref m, .int (nI 0)] hE (jRv (fun h' => h' = hset hE a (jO 22 (itO (hd.map ea) none mc m)))) jNo := by
  refine st_J12_init (ls := [some (.ref a), some (.ref m), some (.int (nI 0))]) F rfl (body := fun M X => ?_)
  refine J.aload0 X dJ12_init_0 ?_
  refine J.aload1 X dJ12_init_1 ?_
  refine J.iload2 X dJ12_init_2 ?_
  refine J.callI X dJ12_init_3 lk_J12_1 ce_J11_init (it_init0Entry F T hf) (by decide) rfl (fun h' e _ => ?_)
  subst e
  refine J.vreturn X dJ12_init_6 (jRv.of ?_)
  rfl
theorem vw_iterEntry {K : JK} {l : Launch} {hE : JIH} {t m : Nat} {D : List Nat} {ea : Nat → Nat} {ka : Nat → Nat} {ta : Nat → Nat} {nx : Nat → Option Nat} {bf : Nat → Option Nat} {af : Nat → Option Nat} {tb : Option Nat} {n : Nat} {f : Nat → Option Nat} {es : Option Nat} {ks : Option Nat} {vs : Option Nat} {sz : Nat} {mc : Int32} {th : Nat} {lf : Value} {hd : Option Nat} {tl : Option Nat} (F : JF K) (T : LmR K t hE m D ea ka ta nx bf af tb n f es ks vs sz mc th lf hd tl) {v : Nat} (hv : hget hE v = some (jO 19 [.int (nI 0), .ref m])) (hr : hres hE + 13 ≤ jRL) :
    Ct K l yJ10_iterator wJ10_iterator 3 [.ref v] hE (jRa (fun r h' => r = some (hnew hE) ∧ h' = hpush hE 6 (jO 22 (itO (hd.map ea) none mc m)))) jNo := by
  refine st_J10_iterator (ls := [some (.ref v)]) F rfl (body := fun M X => ?_)
  refine J.new (ci := 22) (6) X dJ10_iterator_0 jcl_22 cl_J10_26 rfl (hr) ?_
  refine J.dup X dJ10_iterator_3 ?_
  refine J.aload0 X dJ10_iterator_4 ?_
  refine J.getf X dJ10_iterator_5 fl_J10_1_J10 ((hget_push _ _ hv)) rfl ?_
  refine J.aload0 X dJ10_iterator_8 ?_
  refine J.getf X dJ10_iterator_9 fl_J10_13_J10 ((hget_push _ _ hv)) rfl ?_
  refine J.callI X dJ10_iterator_12 lk_J10_28 ce_J12_init (it_initEntry F (T.push 6 _) (hget_push_new _ _ _)) (by decide) rfl (fun h' e _ => ?_)
  subst e
  rw [hset_push_new]
  refine J.areturnO X dJ10_iterator_15 (jRa.ofR ?_)
  exact ⟨rfl, rfl⟩
theorem it_hasEntry {K : JK} {l : Launch} {hE : JIH} (F : JF K) {i m : Nat} {nxt cur : Option Nat} {mc : Int32} (hi : hget hE i = some (jO 22 (itO nxt cur mc m))) :
    Ct K l yJ11_hasNext wJ11_hasNext 0 [.ref i] hE (jRi (fun r h' => r = jB (nxt.isSome = true) ∧ hE = h')) jNo := by
  refine st_J11_hasNext (ls := [some (.ref i)]) F rfl (body := fun M X => ?_)
  refine J.aload0 X dJ11_hasNext_0 ?_
  refine J.getf X dJ11_hasNext_1 fl_J11_26_J12 (hi) rfl ?_
  refine J.ifnull (tgt := 11) X dJ11_hasNext_4 (by decide) (fun c1 => ?_) (fun a_c1 c1 => ?_)
  · skip
    refine J.iconst (v := nI 0) X dJ11_hasNext_11 (by decide) ?_
    refine J.zreturn X dJ11_hasNext_12 (rfl) (jRi.of ?_)
    exact ⟨jB_0 (by rw [c1]; decide), rfl⟩
  · skip
    refine J.iconst (v := nI 1) X dJ11_hasNext_7 (by decide) ?_
    refine J.goto (tgt := 12) X dJ11_hasNext_8 (by decide) ?_
    refine J.zreturn X dJ11_hasNext_12 (rfl) (jRi.of ?_)
    exact ⟨jB_1 (by rw [c1]; rfl), rfl⟩
theorem it_nodeEntry {K : JK} {l : Launch} {hE : JIH} {t m : Nat} {D : List Nat} {ea : Nat → Nat} {ka : Nat → Nat} {ta : Nat → Nat} {nx : Nat → Option Nat} {bf : Nat → Option Nat} {af : Nat → Option Nat} {tb : Option Nat} {n : Nat} {f : Nat → Option Nat} {es : Option Nat} {ks : Option Nat} {vs : Option Nat} {sz : Nat} {mc : Int32} {th : Nat} {lf : Value} {hd : Option Nat} {tl : Option Nat} (F : JF K) (T : LmR K t hE m D ea ka ta nx bf af tb n f es ks vs sz mc th lf hd tl) {i k : Nat} {cur : Option Nat} (hk : k ∈ D) (hi : hget hE i = some (jO 22 (itO (some (ea k)) cur mc m))) :
    Ct K l yJ11_nextNode wJ11_nextNode 0 [.ref i] hE (jRa (fun r h' => r = some (ea k) ∧ h' = hset hE i (jO 22 (itO ((af k).map ea) (some (ea k)) mc m)))) jNo := by
  have hne : i ≠ m := fun z => by
    subst z
    exact jO_ne (by decide) (Option.some.inj (hi.symm.trans T.1.1))
  have hne2 : i ≠ ea k := fun z => by
    subst z
    exact jO_ne (by decide) (Option.some.inj (hi.symm.trans (T.2.1 k hk).2.1))
  refine st_J11_nextNode (ls := [some (.ref i), none]) F rfl (body := fun M X => ?_)
  refine J.aload0 X dJ11_nextNode_0 ?_
  refine J.getf X dJ11_nextNode_1 fl_J11_26_J12 (hi) rfl ?_
  refine J.astore1 X dJ11_nextNode_4 ?_
  refine J.aload0 X dJ11_nextNode_5 ?_
  refine J.getf X dJ11_nextNode_6 fl_J11_1_J12 (hi) rfl ?_
  refine J.getf X dJ11_nextNode_9 fl_J11_29_J2 (T.1.1) rfl ?_
  refine J.aload0 X dJ11_nextNode_12 ?_
  refine J.getf X dJ11_nextNode_13 fl_J11_33_J12 (hi) rfl ?_
  refine J.icmp_eq (tgt := 27) X dJ11_nextNode_16 (by decide) (fun _ => ?_) (fun q9 => absurd q9 (fun h => h rfl))
  refine J.aload1 X dJ11_nextNode_27 ?_
  refine J.ifnonnullR (tgt := 39) X dJ11_nextNode_28 (by decide) ?_
  refine J.aload0 X dJ11_nextNode_39 ?_
  refine J.aload1 X dJ11_nextNode_40 ?_
  refine J.fresh hi ?_
  refine J.putfS X dJ11_nextNode_41 (pl_J11_36_J12 _) (hi) (Nat.le_of_ble_eq_true rfl) (rfl) (rfl) ?_
  refine J.aload0 X dJ11_nextNode_44 ?_
  refine J.aload0 X dJ11_nextNode_45 ?_
  refine J.getf X dJ11_nextNode_46 fl_J11_13_J12 ((hget_set_same _ hi)) rfl ?_
  refine J.if_eqN (tgt := 59) X dJ11_nextNode_49 (by decide) (by omega) (fun _ => ?_) (fun q9 => absurd q9 (by omega))
  refine J.aload1 X dJ11_nextNode_59 ?_
  refine J.getf X dJ11_nextNode_60 fl_J11_50_J34 ((hget_set_ne _ hne2).trans (T.2.1 k hk).2.1) rfl ?_
  refine J.putfS X dJ11_nextNode_63 (pl_J11_26_J12 _) (hi) (Nat.le_of_ble_eq_true rfl) (nar_rf _ _) (fit_rf _ _) ?_
  refine J.aload1 X dJ11_nextNode_66 ?_
  refine J.areturnO X dJ11_nextNode_67 (jRa.ofR ?_)
  exact ⟨rfl, rfl⟩
theorem it_init0Key {K : JK} {l : Launch} {hE : JIH} {t m : Nat} {D : List Nat} {ea : Nat → Nat} {ka : Nat → Nat} {ta : Nat → Nat} {nx : Nat → Option Nat} {bf : Nat → Option Nat} {af : Nat → Option Nat} {tb : Option Nat} {n : Nat} {f : Nat → Option Nat} {es : Option Nat} {ks : Option Nat} {vs : Option Nat} {sz : Nat} {mc : Int32} {th : Nat} {lf : Value} {hd : Option Nat} {tl : Option Nat} (F : JF K) (T : LmR K t hE m D ea ka ta nx bf af tb n f es ks vs sz mc th lf hd tl) {a : Nat} {x0 x1 x2 x3 x4 : Value} (hf : hget hE a = some (jO 23 [x0, x1, x2, x3, x4])) :
    Ct K l yJ11_init wJ11_init 1 [.ref a, .ref m, .int (nI 0)] hE (jRv (fun h' => h' = hset hE a (jO 23 (itO (hd.map ea) none mc m)))) jNo := by
  have hne : a ≠ m := fun z => by
    subst z
    exact jO_ne (by decide) (Option.some.inj (hf.symm.trans T.1.1))
  refine st_J11_init (ls := [some (.ref a), some (.ref m), some (.int (nI 0))]) F rfl (body := fun M X => ?_)
  refine J.fresh hf ?_
  refine J.aload0 X dJ11_init_0 ?_
  refine J.aload1 X dJ11_init_1 ?_
  refine J.putfS X dJ11_init_2 pl_J11_1_J13 (hf) (Nat.le_of_ble_eq_true rfl) (rfl) (rfl) ?_
  refine J.aload0 X dJ11_init_5 ?_
  refine J.objInit X dJ11_init_6 lk_J11_7 (by decide) ?_
  refine J.aload0 X dJ11_init_9 ?_
  refine J.iload2 X dJ11_init_10 ?_
  refine J.putfS X dJ11_init_11 (pl_J11_13_J13 _) (hf) (Nat.le_of_ble_eq_true rfl) (rfl) (rfl) ?_
  refine J.aload0 X dJ11_init_14 ?_
  refine J.iload2 X dJ11_init_15 ?_
  refine J.if_eqN (tgt := 26) X dJ11_init_16 (by decide) (by omega) (fun _ => ?_) (fun q9 => absurd q9 (by omega))
  refine J.aload1 X dJ11_init_26 ?_
  refine J.getf X dJ11_init_27 fl_J11_23_J2 ((hget_set_ne _ hne).trans T.1.1) rfl ?_
  refine J.putfS X dJ11_init_30 (pl_J11_26_J13 _) (hf) (Nat.le_of_ble_eq_true rfl) (nar_rf _ _) (fit_rf _ _) ?_
  refine J.aload0 X dJ11_init_33 ?_
  refine J.aload1 X dJ11_init_34 ?_
  refine J.getf X dJ11_init_35 fl_J11_29_J2 ((hget_set_ne _ hne).trans T.1.1) rfl ?_
  refine J.putfS X dJ11_init_38 (pl_J11_33_J13 _) (hf) (Nat.le_of_ble_eq_true rfl) (rfl) (rfl) ?_
  refine J.aload0 X dJ11_init_41 ?_
  refine J.aconst_null X dJ11_init_42 ?_
  refine J.putfS X dJ11_init_43 (pl_J11_36_J13 _) (hf) (Nat.le_of_ble_eq_true rfl) (rfl) (rfl) ?_
  refine J.vreturn X dJ11_init_46 (jRv.of ?_)
  rfl
theorem it_initKey {K : JK} {l : Launch} {hE : JIH} {t m : Nat} {D : List Nat} {ea : Nat → Nat} {ka : Nat → Nat} {ta : Nat → Nat} {nx : Nat → Option Nat} {bf : Nat → Option Nat} {af : Nat → Option Nat} {tb : Option Nat} {n : Nat} {f : Nat → Option Nat} {es : Option Nat} {ks : Option Nat} {vs : Option Nat} {sz : Nat} {mc : Int32} {th : Nat} {lf : Value} {hd : Option Nat} {tl : Option Nat} (F : JF K) (T : LmR K t hE m D ea ka ta nx bf af tb n f es ks vs sz mc th lf hd tl) {a : Nat} {x0 x1 x2 x3 x4 : Value} (hf : hget hE a = some (jO 23 [x0, x1, x2, x3, x4])) :
    Ct K l yJ13_init wJ13_init 2 [.ref a, .ref m, .int (nI 0)] hE (jRv (fun h' => h' = hset hE a (jO 23 (itO (hd.map ea) none mc m)))) jNo := by
  refine st_J13_init (ls := [some (.ref a), some (.ref m), some (.int (nI 0))]) F rfl (body := fun M X => ?_)
  refine J.aload0 X dJ13_init_0 ?_
  refine J.aload1 X dJ13_init_1 ?_
  refine J.iload2 X dJ13_init_2 ?_
  refine J.callI X dJ13_init_3 lk_J13_1 ce_J11_init (it_init0Key F T hf) (by decide) rfl (fun h' e _ => ?_)
  subst e
  refine J.vreturn X dJ13_init_6 (jRv.of ?_)
  rfl
theorem vw_iterKey {K : JK} {l : Launch} {hE : JIH} {t m : Nat} {D : List Nat} {ea : Nat → Nat} {ka : Nat → Nat} {ta : Nat → Nat} {nx : Nat → Option Nat} {bf : Nat → Option Nat} {af : Nat → Option Nat} {tb : Option Nat} {n : Nat} {f : Nat → Option Nat} {es : Option Nat} {ks : Option Nat} {vs : Option Nat} {sz : Nat} {mc : Int32} {th : Nat} {lf : Value} {hd : Option Nat} {tl : Option Nat} (F : JF K) (T : LmR K t hE m D ea ka ta nx bf af tb n f es ks vs sz mc th lf hd tl) {v : Nat} (hv : hget hE v = some (jO 20 [.int (nI 0), .ref m])) (hr : hres hE + 13 ≤ jRL) :
    Ct K l yJ37_iterator wJ37_iterator 3 [.ref v] hE (jRa (fun r h' => r = some (hnew hE) ∧ h' = hpush hE 6 (jO 23 (itO (hd.map ea) none mc m)))) jNo := by
  refine st_J37_iterator (ls := [some (.ref v)]) F rfl (body := fun M X => ?_)
  refine J.new (ci := 23) (6) X dJ37_iterator_0 jcl_23 cl_J37_26 rfl (hr) ?_
  refine J.dup X dJ37_iterator_3 ?_
  refine J.aload0 X dJ37_iterator_4 ?_
  refine J.getf X dJ37_iterator_5 fl_J37_1_J37 ((hget_push _ _ hv)) rfl ?_
  refine J.aload0 X dJ37_iterator_8 ?_
  refine J.getf X dJ37_iterator_9 fl_J37_13_J37 ((hget_push _ _ hv)) rfl ?_
  refine J.callI X dJ37_iterator_12 lk_J37_28 ce_J13_init (it_initKey F (T.push 6 _) (hget_push_new _ _ _)) (by decide) rfl (fun h' e _ => ?_)
  subst e
  rw [hset_push_new]
  refine J.areturnO X dJ37_iterator_15 (jRa.ofR ?_)
  exact ⟨rfl, rfl⟩
theorem it_hasKey {K : JK} {l : Launch} {hE : JIH} (F : JF K) {i m : Nat} {nxt cur : Option Nat} {mc : Int32} (hi : hget hE i = some (jO 23 (itO nxt cur mc m))) :
    Ct K l yJ11_hasNext wJ11_hasNext 0 [.ref i] hE (jRi (fun r h' => r = jB (nxt.isSome = true) ∧ hE = h')) jNo := by
  refine st_J11_hasNext (ls := [some (.ref i)]) F rfl (body := fun M X => ?_)
  refine J.aload0 X dJ11_hasNext_0 ?_
  refine J.getf X dJ11_hasNext_1 fl_J11_26_J13 (hi) rfl ?_
  refine J.ifnull (tgt := 11) X dJ11_hasNext_4 (by decide) (fun c1 => ?_) (fun a_c1 c1 => ?_)
  · skip
    refine J.iconst (v := nI 0) X dJ11_hasNext_11 (by decide) ?_
    refine J.zreturn X dJ11_hasNext_12 (rfl) (jRi.of ?_)
    exact ⟨jB_0 (by rw [c1]; decide), rfl⟩
  · skip
    refine J.iconst (v := nI 1) X dJ11_hasNext_7 (by decide) ?_
    refine J.goto (tgt := 12) X dJ11_hasNext_8 (by decide) ?_
    refine J.zreturn X dJ11_hasNext_12 (rfl) (jRi.of ?_)
    exact ⟨jB_1 (by rw [c1]; rfl), rfl⟩
theorem it_nodeKey {K : JK} {l : Launch} {hE : JIH} {t m : Nat} {D : List Nat} {ea : Nat → Nat} {ka : Nat → Nat} {ta : Nat → Nat} {nx : Nat → Option Nat} {bf : Nat → Option Nat} {af : Nat → Option Nat} {tb : Option Nat} {n : Nat} {f : Nat → Option Nat} {es : Option Nat} {ks : Option Nat} {vs : Option Nat} {sz : Nat} {mc : Int32} {th : Nat} {lf : Value} {hd : Option Nat} {tl : Option Nat} (F : JF K) (T : LmR K t hE m D ea ka ta nx bf af tb n f es ks vs sz mc th lf hd tl) {i k : Nat} {cur : Option Nat} (hk : k ∈ D) (hi : hget hE i = some (jO 23 (itO (some (ea k)) cur mc m))) :
    Ct K l yJ11_nextNode wJ11_nextNode 0 [.ref i] hE (jRa (fun r h' => r = some (ea k) ∧ h' = hset hE i (jO 23 (itO ((af k).map ea) (some (ea k)) mc m)))) jNo := by
  have hne : i ≠ m := fun z => by
    subst z
    exact jO_ne (by decide) (Option.some.inj (hi.symm.trans T.1.1))
  have hne2 : i ≠ ea k := fun z => by
    subst z
    exact jO_ne (by decide) (Option.some.inj (hi.symm.trans (T.2.1 k hk).2.1))
  refine st_J11_nextNode (ls := [some (.ref i), none]) F rfl (body := fun M X => ?_)
  refine J.aload0 X dJ11_nextNode_0 ?_
  refine J.getf X dJ11_nextNode_1 fl_J11_26_J13 (hi) rfl ?_
  refine J.astore1 X dJ11_nextNode_4 ?_
  refine J.aload0 X dJ11_nextNode_5 ?_
  refine J.getf X dJ11_nextNode_6 fl_J11_1_J13 (hi) rfl ?_
  refine J.getf X dJ11_nextNode_9 fl_J11_29_J2 (T.1.1) rfl ?_
  refine J.aload0 X dJ11_nextNode_12 ?_
  refine J.getf X dJ11_nextNode_13 fl_J11_33_J13 (hi) rfl ?_
  refine J.icmp_eq (tgt := 27) X dJ11_nextNode_16 (by decide) (fun _ => ?_) (fun q9 => absurd q9 (fun h => h rfl))
  refine J.aload1 X dJ11_nextNode_27 ?_
  refine J.ifnonnullR (tgt := 39) X dJ11_nextNode_28 (by decide) ?_
  refine J.aload0 X dJ11_nextNode_39 ?_
  refine J.aload1 X dJ11_nextNode_40 ?_
  refine J.fresh hi ?_
  refine J.putfS X dJ11_nextNode_41 (pl_J11_36_J13 _) (hi) (Nat.le_of_ble_eq_true rfl) (rfl) (rfl) ?_
  refine J.aload0 X dJ11_nextNode_44 ?_
  refine J.aload0 X dJ11_nextNode_45 ?_
  refine J.getf X dJ11_nextNode_46 fl_J11_13_J13 ((hget_set_same _ hi)) rfl ?_
  refine J.if_eqN (tgt := 59) X dJ11_nextNode_49 (by decide) (by omega) (fun _ => ?_) (fun q9 => absurd q9 (by omega))
  refine J.aload1 X dJ11_nextNode_59 ?_
  refine J.getf X dJ11_nextNode_60 fl_J11_50_J34 ((hget_set_ne _ hne2).trans (T.2.1 k hk).2.1) rfl ?_
  refine J.putfS X dJ11_nextNode_63 (pl_J11_26_J13 _) (hi) (Nat.le_of_ble_eq_true rfl) (nar_rf _ _) (fit_rf _ _) ?_
  refine J.aload1 X dJ11_nextNode_66 ?_
  refine J.areturnO X dJ11_nextNode_67 (jRa.ofR ?_)
  exact ⟨rfl, rfl⟩
theorem it_init0Val {K : JK} {l : Launch} {hE : JIH} {t m : Nat} {D : List Nat} {ea : Nat → Nat} {ka : Nat → Nat} {ta : Nat → Nat} {nx : Nat → Option Nat} {bf : Nat → Option Nat} {af : Nat → Option Nat} {tb : Option Nat} {n : Nat} {f : Nat → Option Nat} {es : Option Nat} {ks : Option Nat} {vs : Option Nat} {sz : Nat} {mc : Int32} {th : Nat} {lf : Value} {hd : Option Nat} {tl : Option Nat} (F : JF K) (T : LmR K t hE m D ea ka ta nx bf af tb n f es ks vs sz mc th lf hd tl) {a : Nat} {x0 x1 x2 x3 x4 : Value} (hf : hget hE a = some (jO 24 [x0, x1, x2, x3, x4])) :
    Ct K l yJ11_init wJ11_init 1 [.ref a, .ref m, .int (nI 0)] hE (jRv (fun h' => h' = hset hE a (jO 24 (itO (hd.map ea) none mc m)))) jNo := by
  have hne : a ≠ m := fun z => by
    subst z
    exact jO_ne (by decide) (Option.some.inj (hf.symm.trans T.1.1))
  refine st_J11_init (ls := [some (.ref a), some (.ref m), some (.int (nI 0))]) F rfl (body := fun M X => ?_)
  refine J.fresh hf ?_
  refine J.aload0 X dJ11_init_0 ?_
  refine J.aload1 X dJ11_init_1 ?_
  refine J.putfS X dJ11_init_2 pl_J11_1_J43 (hf) (Nat.le_of_ble_eq_true rfl) (rfl) (rfl) ?_
  refine J.aload0 X dJ11_init_5 ?_
  refine J.objInit X dJ11_init_6 lk_J11_7 (by decide) ?_
  refine J.aload0 X dJ11_init_9 ?_
  refine J.iload2 X dJ11_init_10 ?_
  refine J.putfS X dJ11_init_11 (pl_J11_13_J43 _) (hf) (Nat.le_of_ble_eq_true rfl) (rfl) (rfl) ?_
  refine J.aload0 X dJ11_init_14 ?_
  refine J.iload2 X dJ11_init_15 ?_
  refine J.if_eqN (tgt := 26) X dJ11_init_16 (by decide) (by omega) (fun _ => ?_) (fun q9 => absurd q9 (by omega))
  refine J.aload1 X dJ11_init_26 ?_
  refine J.getf X dJ11_init_27 fl_J11_23_J2 ((hget_set_ne _ hne).trans T.1.1) rfl ?_
  refine J.putfS X dJ11_init_30 (pl_J11_26_J43 _) (hf) (Nat.le_of_ble_eq_true rfl) (nar_rf _ _) (fit_rf _ _) ?_
  refine J.aload0 X dJ11_init_33 ?_
  refine J.aload1 X dJ11_init_34 ?_
  refine J.getf X dJ11_init_35 fl_J11_29_J2 ((hget_set_ne _ hne).trans T.1.1) rfl ?_
  refine J.putfS X dJ11_init_38 (pl_J11_33_J43 _) (hf) (Nat.le_of_ble_eq_true rfl) (rfl) (rfl) ?_
  refine J.aload0 X dJ11_init_41 ?_
  refine J.aconst_null X dJ11_init_42 ?_
  refine J.putfS X dJ11_init_43 (pl_J11_36_J43 _) (hf) (Nat.le_of_ble_eq_true rfl) (rfl) (rfl) ?_
  refine J.vreturn X dJ11_init_46 (jRv.of ?_)
  rfl
theorem it_initVal {K : JK} {l : Launch} {hE : JIH} {t m : Nat} {D : List Nat} {ea : Nat → Nat} {ka : Nat → Nat} {ta : Nat → Nat} {nx : Nat → Option Nat} {bf : Nat → Option Nat} {af : Nat → Option Nat} {tb : Option Nat} {n : Nat} {f : Nat → Option Nat} {es : Option Nat} {ks : Option Nat} {vs : Option Nat} {sz : Nat} {mc : Int32} {th : Nat} {lf : Value} {hd : Option Nat} {tl : Option Nat} (F : JF K) (T : LmR K t hE m D ea ka ta nx bf af tb n f es ks vs sz mc th lf hd tl) {a : Nat} {x0 x1 x2 x3 x4 : Value} (hf : hget hE a = some (jO 24 [x0, x1, x2, x3, x4])) :
    Ct K l yJ43_init wJ43_init 2 [.ref a, .ref m, .int (nI 0)] hE (jRv (fun h' => h' = hset hE a (jO 24 (itO (hd.map ea) none mc m)))) jNo := by
  refine st_J43_init (ls := [some (.ref a), some (.ref m), some (.int (nI 0))]) F rfl (body := fun M X => ?_)
  refine J.aload0 X dJ43_init_0 ?_
  refine J.aload1 X dJ43_init_1 ?_
  refine J.iload2 X dJ43_init_2 ?_
  refine J.callI X dJ43_init_3 lk_J43_1 ce_J11_init (it_init0Val F T hf) (by decide) rfl (fun h' e _ => ?_)
  subst e
  refine J.vreturn X dJ43_init_6 (jRv.of ?_)
  rfl
theorem vw_iterVal {K : JK} {l : Launch} {hE : JIH} {t m : Nat} {D : List Nat} {ea : Nat → Nat} {ka : Nat → Nat} {ta : Nat → Nat} {nx : Nat → Option Nat} {bf : Nat → Option Nat} {af : Nat → Option Nat} {tb : Option Nat} {n : Nat} {f : Nat → Option Nat} {es : Option Nat} {ks : Option Nat} {vs : Option Nat} {sz : Nat} {mc : Int32} {th : Nat} {lf : Value} {hd : Option Nat} {tl : Option Nat} (F : JF K) (T : LmR K t hE m D ea ka ta nx bf af tb n f es ks vs sz mc th lf hd tl) {v : Nat} (hv : hget hE v = some (jO 21 [.int (nI 0), .ref m])) (hr : hres hE + 13 ≤ jRL) :
    Ct K l yJ42_iterator wJ42_iterator 3 [.ref v] hE (jRa (fun r h' => r = some (hnew hE) ∧ h' = hpush hE 6 (jO 24 (itO (hd.map ea) none mc m)))) jNo := by
  refine st_J42_iterator (ls := [some (.ref v)]) F rfl (body := fun M X => ?_)
  refine J.new (ci := 24) (6) X dJ42_iterator_0 jcl_24 cl_J42_26 rfl (hr) ?_
  refine J.dup X dJ42_iterator_3 ?_
  refine J.aload0 X dJ42_iterator_4 ?_
  refine J.getf X dJ42_iterator_5 fl_J42_1_J42 ((hget_push _ _ hv)) rfl ?_
  refine J.aload0 X dJ42_iterator_8 ?_
  refine J.getf X dJ42_iterator_9 fl_J42_13_J42 ((hget_push _ _ hv)) rfl ?_
  refine J.callI X dJ42_iterator_12 lk_J42_28 ce_J43_init (it_initVal F (T.push 6 _) (hget_push_new _ _ _)) (by decide) rfl (fun h' e _ => ?_)
  subst e
  rw [hset_push_new]
  refine J.areturnO X dJ42_iterator_15 (jRa.ofR ?_)
  exact ⟨rfl, rfl⟩
theorem it_hasVal {K : JK} {l : Launch} {hE : JIH} (F : JF K) {i m : Nat} {nxt cur : Option Nat} {mc : Int32} (hi : hget hE i = some (jO 24 (itO nxt cur mc m))) :
    Ct K l yJ11_hasNext wJ11_hasNext 0 [.ref i] hE (jRi (fun r h' => r = jB (nxt.isSome = true) ∧ hE = h')) jNo := by
  refine st_J11_hasNext (ls := [some (.ref i)]) F rfl (body := fun M X => ?_)
  refine J.aload0 X dJ11_hasNext_0 ?_
  refine J.getf X dJ11_hasNext_1 fl_J11_26_J43 (hi) rfl ?_
  refine J.ifnull (tgt := 11) X dJ11_hasNext_4 (by decide) (fun c1 => ?_) (fun a_c1 c1 => ?_)
  · skip
    refine J.iconst (v := nI 0) X dJ11_hasNext_11 (by decide) ?_
    refine J.zreturn X dJ11_hasNext_12 (rfl) (jRi.of ?_)
    exact ⟨jB_0 (by rw [c1]; decide), rfl⟩
  · skip
    refine J.iconst (v := nI 1) X dJ11_hasNext_7 (by decide) ?_
    refine J.goto (tgt := 12) X dJ11_hasNext_8 (by decide) ?_
    refine J.zreturn X dJ11_hasNext_12 (rfl) (jRi.of ?_)
    exact ⟨jB_1 (by rw [c1]; rfl), rfl⟩
theorem it_nodeVal {K : JK} {l : Launch} {hE : JIH} {t m : Nat} {D : List Nat} {ea : Nat → Nat} {ka : Nat → Nat} {ta : Nat → Nat} {nx : Nat → Option Nat} {bf : Nat → Option Nat} {af : Nat → Option Nat} {tb : Option Nat} {n : Nat} {f : Nat → Option Nat} {es : Option Nat} {ks : Option Nat} {vs : Option Nat} {sz : Nat} {mc : Int32} {th : Nat} {lf : Value} {hd : Option Nat} {tl : Option Nat} (F : JF K) (T : LmR K t hE m D ea ka ta nx bf af tb n f es ks vs sz mc th lf hd tl) {i k : Nat} {cur : Option Nat} (hk : k ∈ D) (hi : hget hE i = some (jO 24 (itO (some (ea k)) cur mc m))) :
    Ct K l yJ11_nextNode wJ11_nextNode 0 [.ref i] hE (jRa (fun r h' => r = some (ea k) ∧ h' = hset hE i (jO 24 (itO ((af k).map ea) (some (ea k)) mc m)))) jNo := by
  have hne : i ≠ m := fun z => by
    subst z
    exact jO_ne (by decide) (Option.some.inj (hi.symm.trans T.1.1))
  have hne2 : i ≠ ea k := fun z => by
    subst z
    exact jO_ne (by decide) (Option.some.inj (hi.symm.trans (T.2.1 k hk).2.1))
  refine st_J11_nextNode (ls := [some (.ref i), none]) F rfl (body := fun M X => ?_)
  refine J.aload0 X dJ11_nextNode_0 ?_
  refine J.getf X dJ11_nextNode_1 fl_J11_26_J43 (hi) rfl ?_
  refine J.astore1 X dJ11_nextNode_4 ?_
  refine J.aload0 X dJ11_nextNode_5 ?_
  refine J.getf X dJ11_nextNode_6 fl_J11_1_J43 (hi) rfl ?_
  refine J.getf X dJ11_nextNode_9 fl_J11_29_J2 (T.1.1) rfl ?_
  refine J.aload0 X dJ11_nextNode_12 ?_
  refine J.getf X dJ11_nextNode_13 fl_J11_33_J43 (hi) rfl ?_
  refine J.icmp_eq (tgt := 27) X dJ11_nextNode_16 (by decide) (fun _ => ?_) (fun q9 => absurd q9 (fun h => h rfl))
  refine J.aload1 X dJ11_nextNode_27 ?_
  refine J.ifnonnullR (tgt := 39) X dJ11_nextNode_28 (by decide) ?_
  refine J.aload0 X dJ11_nextNode_39 ?_
  refine J.aload1 X dJ11_nextNode_40 ?_
  refine J.fresh hi ?_
  refine J.putfS X dJ11_nextNode_41 (pl_J11_36_J43 _) (hi) (Nat.le_of_ble_eq_true rfl) (rfl) (rfl) ?_
  refine J.aload0 X dJ11_nextNode_44 ?_
  refine J.aload0 X dJ11_nextNode_45 ?_
  refine J.getf X dJ11_nextNode_46 fl_J11_13_J43 ((hget_set_same _ hi)) rfl ?_
  refine J.if_eqN (tgt := 59) X dJ11_nextNode_49 (by decide) (by omega) (fun _ => ?_) (fun q9 => absurd q9 (by omega))
  refine J.aload1 X dJ11_nextNode_59 ?_
  refine J.getf X dJ11_nextNode_60 fl_J11_50_J34 ((hget_set_ne _ hne2).trans (T.2.1 k hk).2.1) rfl ?_
  refine J.putfS X dJ11_nextNode_63 (pl_J11_26_J43 _) (hi) (Nat.le_of_ble_eq_true rfl) (nar_rf _ _) (fit_rf _ _) ?_
  refine J.aload1 X dJ11_nextNode_66 ?_
  refine J.areturnO X dJ11_nextNode_67 (jRa.ofR ?_)
  exact ⟨rfl, rfl⟩
theorem en_key {K : JK} {l : Launch} {hE : JIH} (F : JF K) {a k : Nat} {x0 x2 x3 x4 x5 : Value} (hf : hget hE a = some (jO 13 [x0, .ref k, x2, x3, x4, x5])) :
    Ct K l yJ33_getKey wJ33_getKey 0 [.ref a] hE (jRa (fun r h' => r = some k ∧ hE = h')) jNo := by
  refine st_J33_getKey (ls := [some (.ref a)]) F rfl (body := fun M X => ?_)
  refine J.aload0 X dJ33_getKey_0 ?_
  refine J.getf X dJ33_getKey_1 fl_J33_13_J34 (hf) rfl ?_
  refine J.areturnO X dJ33_getKey_4 (jRa.ofR ?_)
  exact ⟨rfl, rfl⟩
theorem en_val {K : JK} {l : Launch} {hE : JIH} (F : JF K) {a v : Nat} {x0 x1 x3 x4 x5 : Value} (hf : hget hE a = some (jO 13 [x0, x1, .ref v, x3, x4, x5])) :
    Ct K l yJ33_getValue wJ33_getValue 0 [.ref a] hE (jRa (fun r h' => r = some v ∧ hE = h')) jNo := by
  refine st_J33_getValue (ls := [some (.ref a)]) F rfl (body := fun M X => ?_)
  refine J.aload0 X dJ33_getValue_0 ?_
  refine J.getf X dJ33_getValue_1 fl_J33_17_J34 (hf) rfl ?_
  refine J.areturnO X dJ33_getValue_4 (jRa.ofR ?_)
  exact ⟨rfl, rfl⟩
theorem it_nextE0 {K : JK} {l : Launch} {hE : JIH} {t m : Nat} {D : List Nat} {ea : Nat → Nat} {ka : Nat → Nat} {ta : Nat → Nat} {nx : Nat → Option Nat} {bf : Nat → Option Nat} {af : Nat → Option Nat} {tb : Option Nat} {n : Nat} {f : Nat → Option Nat} {es : Option Nat} {ks : Option Nat} {vs : Option Nat} {sz : Nat} {mc : Int32} {th : Nat} {lf : Value} {hd : Option Nat} {tl : Option Nat} (F : JF K) (T : LmR K t hE m D ea ka ta nx bf af tb n f es ks vs sz mc th lf hd tl) {i k : Nat} {cur : Option Nat} (hk : k ∈ D) (hi : hget hE i = some (jO 22 (itO (some (ea k)) cur mc m))) :
    Ct K l yJ12_next_2 wJ12_next_2 1 [.ref i] hE (jRa (fun r h' => r = some (ea k) ∧ h' = hset hE i (jO 22 (itO ((af k).map ea) (some (ea k)) mc m)))) jNo := by
  refine st_J12_next_2 (ls := [some (.ref i)]) F rfl (body := fun M X => ?_)
  refine J.aload0 X dJ12_next_2_0 ?_
  refine J.callUa X dJ12_next_2_1 lk_J12_7_J12 ce_J11_nextNode (it_nodeEntry F T hk hi) (by decide) rfl (hi) rfl (fun r h' e _ => ?_)
  refine J.areturnO X dJ12_next_2_4 (jRa.of ?_)
  exact e
theorem it_nextEntry {K : JK} {l : Launch} {hE : JIH} {t m : Nat} {D : List Nat} {ea : Nat → Nat} {ka : Nat → Nat} {ta : Nat → Nat} {nx : Nat → Option Nat} {bf : Nat → Option Nat} {af : Nat → Option Nat} {tb : Option Nat} {n : Nat} {f : Nat → Option Nat} {es : Option Nat} {ks : Option Nat} {vs : Option Nat} {sz : Nat} {mc : Int32} {th : Nat} {lf : Value} {hd : Option Nat} {tl : Option Nat} (F : JF K) (T : LmR K t hE m D ea ka ta nx bf af tb n f es ks vs sz mc th lf hd tl) {i k : Nat} {cur : Option Nat} (hk : k ∈ D) (hi : hget hE i = some (jO 22 (itO (some (ea k)) cur mc m))) :
    Ct K l yJ12_next wJ12_next 2 [.ref i] hE (jRa (fun r h' => r = some (ea k) ∧ h' = hset hE i (jO 22 (itO ((af k).map ea) (some (ea k)) mc m)))) jNo := by
  refine st_J12_next (ls := [some (.ref i)]) F rfl (body := fun M X => ?_)
  refine J.aload0 X dJ12_next_0 ?_
  refine J.callVa X dJ12_next_1 lk_J12_13_J12 ce_J12_next_2 (it_nextE0 F T hk hi) (by decide) rfl (hi) rfl (fun r h' e _ => ?_)
  refine J.areturnO X dJ12_next_4 (jRa.of ?_)
  exact e
theorem it_nextKey {K : JK} {l : Launch} {hE : JIH} {t m : Nat} {D : List Nat} {ea : Nat → Nat} {ka : Nat → Nat} {ta : Nat → Nat} {nx : Nat → Option Nat} {bf : Nat → Option Nat} {af : Nat → Option Nat} {tb : Option Nat} {n : Nat} {f : Nat → Option Nat} {es : Option Nat} {ks : Option Nat} {vs : Option Nat} {sz : Nat} {mc : Int32} {th : Nat} {lf : Value} {hd : Option Nat} {tl : Option Nat} (F : JF K) (T : LmR K t hE m D ea ka ta nx bf af tb n f es ks vs sz mc th lf hd tl) {i k : Nat} {cur : Option Nat} (hk : k ∈ D) (hi : hget hE i = some (jO 23 (itO (some (ea k)) cur mc m))) :
    Ct K l yJ13_next wJ13_next 1 [.ref i] hE (jRa (fun r h' => r = some (ka k) ∧ h' = hset hE i (jO 23 (itO ((af k).map ea) (some (ea k)) mc m)))) jNo := by
  have hne2 : i ≠ ea k := fun z => by
    subst z
    exact jO_ne (by decide) (Option.some.inj (hi.symm.trans (T.2.1 k hk).2.1))
  refine st_J13_next (ls := [some (.ref i)]) F rfl (body := fun M X => ?_)
  refine J.aload0 X dJ13_next_0 ?_
  refine J.callUa X dJ13_next_1 lk_J13_7_J13 ce_J11_nextNode (it_nodeKey F T hk hi) (by decide) rfl (hi) rfl (fun r h' e _ => ?_)
  obtain ⟨rfl, rfl⟩ := e
  refine J.callUa X dJ13_next_4 lk_J13_13_J34 ce_J33_getKey (en_key F ((hget_set_ne _ hne2).trans (T.2.1 k hk).2.1)) (by decide) rfl ((hget_set_ne _ hne2).trans (T.2.1 k hk).2.1) rfl (fun r h' e _ => ?_)
  obtain ⟨rfl, rfl⟩ := e
  refine J.areturnO X dJ13_next_7 (jRa.of ?_)
  exact ⟨rfl, rfl⟩
theorem it_nextVal {K : JK} {l : Launch} {hE : JIH} {t m : Nat} {D : List Nat} {ea : Nat → Nat} {ka : Nat → Nat} {ta : Nat → Nat} {nx : Nat → Option Nat} {bf : Nat → Option Nat} {af : Nat → Option Nat} {tb : Option Nat} {n : Nat} {f : Nat → Option Nat} {es : Option Nat} {ks : Option Nat} {vs : Option Nat} {sz : Nat} {mc : Int32} {th : Nat} {lf : Value} {hd : Option Nat} {tl : Option Nat} (F : JF K) (T : LmR K t hE m D ea ka ta nx bf af tb n f es ks vs sz mc th lf hd tl) {i k : Nat} {cur : Option Nat} (hk : k ∈ D) (hi : hget hE i = some (jO 24 (itO (some (ea k)) cur mc m))) :
    Ct K l yJ43_next wJ43_next 1 [.ref i] hE (jRa (fun r h' => r = some (ta k) ∧ h' = hset hE i (jO 24 (itO ((af k).map ea) (some (ea k)) mc m)))) jNo := by
  have hne2 : i ≠ ea k := fun z => by
    subst z
    exact jO_ne (by decide) (Option.some.inj (hi.symm.trans (T.2.1 k hk).2.1))
  refine st_J43_next (ls := [some (.ref i)]) F rfl (body := fun M X => ?_)
  refine J.aload0 X dJ43_next_0 ?_
  refine J.callUa X dJ43_next_1 lk_J43_7_J43 ce_J11_nextNode (it_nodeVal F T hk hi) (by decide) rfl (hi) rfl (fun r h' e _ => ?_)
  obtain ⟨rfl, rfl⟩ := e
  refine J.getf X dJ43_next_4 fl_J43_13_J34 ((hget_set_ne _ hne2).trans (T.2.1 k hk).2.1) rfl ?_
  refine J.areturnO X dJ43_next_7 (jRa.ofR ?_)
  exact ⟨rfl, rfl⟩
