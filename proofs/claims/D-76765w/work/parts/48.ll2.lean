/-! LinkedList: its iterator (tag 7) -/
def LLJ (t : Nat) (h : JIH) (l : Nat) (ns : List Nat) (it : Nat → Nat) (mc : Int32) (i j : Nat) : Prop := LL t h l ns it mc ∧ ∃ lr : Option Nat, hc h 7 i (jO 18 [va_rf lr, va_rf ns[j]?, .int (nI j), .int mc, .ref l])
theorem LLJ.fr {t : Nat} {h h' : JIH} {l : Nat} {ns : List Nat} {it : Nat → Nat} {mc : Int32} {i j : Nat} {T : Nat → Prop} (S : LLJ t h l ns it mc i j) (g : Fr T h h') (ht : ¬ T t) (h7 : ¬ T 7) : LLJ t h' l ns it mc i j := by
  obtain ⟨S, lr, c⟩ := S
  exact ⟨S.fr g ht, lr, c.fr g h7⟩
theorem LLJ.ob {t : Nat} {h : JIH} {l : Nat} {ns : List Nat} {it : Nat → Nat} {mc : Int32} {i j : Nat} (S : LLJ t h l ns it mc i j) : ∃ fs, hc h 7 i (jO 18 fs) := by
  obtain ⟨S, lr, c⟩ := S
  exact ⟨_, c⟩
theorem ll_itInit {K : JK} {l : Launch} {hE : JIH} {t a i : Nat} {ns : List Nat} {it : Nat → Nat} {mc : Int32} (F : JF K) (T : LL t hE a ns it mc) (hl : ns.length < 64) (hi : hc hE 7 i (jO 18 [.null, .null, .int 0, .int 0, .null])) (ht : t ≠ 7) :
    Ct K l yJ41_init wJ41_init 1 [.ref i, .ref a, .int (nI 0)] hE (jRv (fun h' => LLJ t h' a ns it mc i 0 ∧ Fr (fun x => x = 7) hE h' ∧ hres h' = hres hE)) jNo := by
  refine st_J41_init (ls := [some (.ref i), some (.ref a), some (.int (nI 0))]) F rfl (body := fun M X => ?_)
  refine J.fresh hi.1 ?_
  refine J.aload0 X dJ41_init_0 ?_
  refine J.aload1 X dJ41_init_1 ?_
  refine J.putfS X dJ41_init_2 pl_J41_1_J41 (hi.1) (Nat.le_of_ble_eq_true rfl) (rfl) (rfl) ?_
  refine J.aload0 X dJ41_init_5 ?_
  refine J.objInit X dJ41_init_6 lk_J41_7 (by decide) ?_
  refine J.aload0 X dJ41_init_9 ?_
  have hne : i ≠ a := hi.apE T.ob (jO_ne (by decide))
  refine J.aload0 X dJ41_init_10 ?_
  refine J.getf X dJ41_init_11 fl_J41_1_J41 ((hget_set_same _ hi.1)) rfl ?_
  refine J.getf X dJ41_init_14 fl_J41_13_J7 (((hget_set_ne _ hne).trans T.ob.1)) rfl ?_
  refine J.putfS X dJ41_init_17 (pl_J41_19_J41 _) (hi.1) (Nat.le_of_ble_eq_true rfl) (rfl) (rfl) ?_
  have hi1 := hi.same (jO 18 [.null, .null, .int 0, .int mc, .ref a])
  have f1 : Fr (fun x => x = 7) hE (hset hE i (jO 18 [.null, .null, .int 0, .int mc, .ref a])) := Fr.set hi rfl
  have e1 : hres (hset hE i (jO 18 [.null, .null, .int 0, .int mc, .ref a])) = hres hE := by refine hres_setS hi ?_; rfl
  have T1 := T.fr f1 ht
  show J M (hset hE i (jO 18 [.null, .null, .int 0, .int mc, .ref a])) _ _ _
  generalize hset hE i (jO 18 [.null, .null, .int 0, .int mc, .ref a]) = h1 at hi1 f1 e1 T1
  have fin : J M h1 38 [some (.ref i), some (.ref a), some (.int (nI 0))] [va_rf ns[0]?, .ref i] := by
    refine J.fresh hi1.1 ?_
    refine J.putfS X dJ41_init_38 (pl_J41_29_J41 _) (hi1.1) (Nat.le_of_ble_eq_true rfl) (nar_rf _ _) (fit_rf _ _) ?_
    refine J.aload0 X dJ41_init_41 ?_
    refine J.iload2 X dJ41_init_42 ?_
    refine J.putfS X dJ41_init_43 (pl_J41_33_J41 _) (hi1.1) (Nat.le_of_ble_eq_true rfl) (rfl) (rfl) ?_
    refine J.vreturn X dJ41_init_46 (jRv.of ?_)
    have f2 : Fr (fun x => x = 7) h1 (hset h1 i (jO 18 [.null, va_rf ns[0]?, .int (nI 0), .int mc, .ref a])) := Fr.set hi1 rfl
    refine ⟨⟨T1.fr f2 ht, none, hi1.same _⟩, f1.tr f2, ?_⟩
    rw [← e1]; refine hres_setS hi1 ?_; rfl
  refine J.aload0 X dJ41_init_20 ?_
  refine J.iload2 X dJ41_init_21 ?_
  refine J.aload1 X dJ41_init_22 ?_
  refine J.getf X dJ41_init_23 fl_J41_22_J7 (T1.ob.1) rfl ?_
  refine J.icmp_neN (tgt := 33) X dJ41_init_26 (by decide) (by omega) (by omega) (fun c3 => ?_) (fun c3 => ?_)
  · skip
    have h0 : 0 < ns.length := by omega
    refine J.aload1 X dJ41_init_33 ?_
    refine J.iload2 X dJ41_init_34 ?_
    refine J.callVa X dJ41_init_35 lk_J41_25_J7 ce_J7_node (ll_node F T1 (List.getElem?_eq_getElem h0) hl) (by decide) rfl (T1.ob.1) rfl (fun r h' e _ => ?_)
    obtain ⟨rfl, rfl⟩ := e
    rw [List.getElem?_eq_getElem h0] at fin
    exact fin
  · skip
    refine J.aconst_null X dJ41_init_29 ?_
    refine J.goto (tgt := 38) X dJ41_init_30 (by decide) ?_
    rw [List.getElem?_eq_none (show ns.length ≤ 0 by omega)] at fin
    exact fin
theorem ll_lit {K : JK} {l : Launch} {hE : JIH} {t a : Nat} {ns : List Nat} {it : Nat → Nat} {mc : Int32} (F : JF K) (T : LL t hE a ns it mc) (hl : ns.length < 64) (ht : t ≠ 7) (hr : hres hE + 13 ≤ jRL) :
    Ct K l yJ7_listIterator wJ7_listIterator 2 [.ref a, .int (nI 0)] hE (jRa (fun r h' => ∃ i, r = some i ∧ LLJ t h' a ns it mc i 0 ∧ Fr (fun x => x = 7) hE h' ∧ hres h' = hres hE + 13)) jNo := by
  refine st_J7_listIterator (ls := [some (.ref a), some (.int (nI 0))]) F rfl (body := fun M X => ?_)
  refine J.aload0 X dJ7_listIterator_0 ?_
  refine J.iload1 X dJ7_listIterator_1 ?_
  refine J.callVv X dJ7_listIterator_2 lk_J7_76_J7 ce_J7_checkPositionIndex (ll_ckPos F T (Nat.zero_le _) hl) (by decide) rfl (T.ob.1) rfl (fun h' e _ => ?_)
  subst e
  refine J.new (ci := 18) (7) X dJ7_listIterator_5 jcl_18 cl_J7_150 rfl (hr) ?_
  have f1 := Fr.push (fun x => x = 7) hE 7 (jO 18 [.null, .null, .int 0, .int 0, .null])
  refine J.dup X dJ7_listIterator_8 ?_
  refine J.aload0 X dJ7_listIterator_9 ?_
  refine J.iload1 X dJ7_listIterator_10 ?_
  refine J.callI X dJ7_listIterator_11 lk_J7_152 ce_J41_init (ll_itInit F (T.fr f1 ht) hl (hc.new _ _ _) ht) (by decide) rfl (fun h' e _ => ?_)
  obtain ⟨S, f2, e2⟩ := e
  refine J.areturnO X dJ7_listIterator_14 (jRa.ofR ?_)
  exact ⟨_, rfl, S, f1.tr f2, by rw [e2, hres_push]; rfl⟩
theorem ll_lit0 {K : JK} {l : Launch} {hE : JIH} {t a : Nat} {ns : List Nat} {it : Nat → Nat} {mc : Int32} (F : JF K) (T : LL t hE a ns it mc) (hl : ns.length < 64) (ht : t ≠ 7) (hr : hres hE + 13 ≤ jRL) :
    Ct K l yJ5_listIterator wJ5_listIterator 3 [.ref a] hE (jRa (fun r h' => ∃ i, r = some i ∧ LLJ t h' a ns it mc i 0 ∧ Fr (fun x => x = 7) hE h' ∧ hres h' = hres hE + 13)) jNo := by
  refine st_J5_listIterator (ls := [some (.ref a)]) F rfl (body := fun M X => ?_)
  refine J.aload0 X dJ5_listIterator_0 ?_
  refine J.iconst (v := nI 0) X dJ5_listIterator_1 (by decide) ?_
  refine J.callUa X dJ5_listIterator_2 lk_J5_47_J7 ce_J7_listIterator (ll_lit F T hl ht hr) (by decide) rfl (T.ob.1) rfl (fun r h' e _ => ?_)
  refine J.areturnO X dJ5_listIterator_5 (jRa.of ?_)
  exact e
theorem ll_iter {K : JK} {l : Launch} {hE : JIH} {t a : Nat} {ns : List Nat} {it : Nat → Nat} {mc : Int32} (F : JF K) (T : LL t hE a ns it mc) (hl : ns.length < 64) (ht : t ≠ 7) (hr : hres hE + 13 ≤ jRL) :
    Ct K l yJ6_iterator wJ6_iterator 4 [.ref a] hE (jRa (fun r h' => ∃ i, r = some i ∧ LLJ t h' a ns it mc i 0 ∧ Fr (fun x => x = 7) hE h' ∧ hres h' = hres hE + 13)) jNo := by
  refine st_J6_iterator (ls := [some (.ref a)]) F rfl (body := fun M X => ?_)
  refine J.aload0 X dJ6_iterator_0 ?_
  refine J.callUa X dJ6_iterator_1 lk_J6_65_J7 ce_J5_listIterator (ll_lit0 F T hl ht hr) (by decide) rfl (T.ob.1) rfl (fun r h' e _ => ?_)
  refine J.areturnO X dJ6_iterator_4 (jRa.of ?_)
  exact e
theorem ll_has {K : JK} {l : Launch} {hE : JIH} {t a i j : Nat} {ns : List Nat} {it : Nat → Nat} {mc : Int32} (F : JF K) (T : LLJ t hE a ns it mc i j) (hl : ns.length < 64) (hj : j ≤ ns.length) :
    Ct K l yJ41_hasNext wJ41_hasNext 0 [.ref i] hE (jRi (fun r h' => r = jB (j < ns.length) ∧ hE = h')) jNo := by
  obtain ⟨T, lr, c⟩ := T
  refine st_J41_hasNext (ls := [some (.ref i)]) F rfl (body := fun M X => ?_)
  refine J.aload0 X dJ41_hasNext_0 ?_
  refine J.getf X dJ41_hasNext_1 fl_J41_33_J41 (c.1) rfl ?_
  refine J.aload0 X dJ41_hasNext_4 ?_
  refine J.getf X dJ41_hasNext_5 fl_J41_1_J41 (c.1) rfl ?_
  refine J.getf X dJ41_hasNext_8 fl_J41_22_J7 (T.ob.1) rfl ?_
  refine J.icmp_geN (tgt := 18) X dJ41_hasNext_11 (by decide) (by omega) (by omega) (fun c3 => ?_) (fun c3 => ?_)
  · skip
    refine J.iconst (v := nI 0) X dJ41_hasNext_18 (by decide) ?_
    refine J.zreturn X dJ41_hasNext_19 (rfl) (jRi.of ?_)
    exact ⟨jB_0 (by omega), rfl⟩
  · skip
    refine J.iconst (v := nI 1) X dJ41_hasNext_14 (by decide) ?_
    refine J.goto (tgt := 19) X dJ41_hasNext_15 (by decide) ?_
    refine J.zreturn X dJ41_hasNext_19 (rfl) (jRi.of ?_)
    exact ⟨jB_1 (by omega), rfl⟩
theorem ll_comod {K : JK} {l : Launch} {hE : JIH} {t a i j : Nat} {ns : List Nat} {it : Nat → Nat} {mc : Int32} (F : JF K) (T : LLJ t hE a ns it mc i j) :
    Ct K l yJ41_checkForComodification wJ41_checkForComodification 0 [.ref i] hE (jRv (fun h' => hE = h')) jNo := by
  obtain ⟨T, lr, c⟩ := T
  refine st_J41_checkForComodification (ls := [some (.ref i)]) F rfl (body := fun M X => ?_)
  refine J.aload0 X dJ41_checkForComodification_0 ?_
  refine J.getf X dJ41_checkForComodification_1 fl_J41_1_J41 (c.1) rfl ?_
  refine J.getf X dJ41_checkForComodification_4 fl_J41_13_J7 (T.ob.1) rfl ?_
  refine J.aload0 X dJ41_checkForComodification_7 ?_
  refine J.getf X dJ41_checkForComodification_8 fl_J41_19_J41 (c.1) rfl ?_
  refine J.icmp_eq (tgt := 22) X dJ41_checkForComodification_11 (by decide) (fun _ => ?_) (fun q9 => absurd q9 (fun h => h rfl))
  refine J.vreturn X dJ41_checkForComodification_22 (jRv.of ?_)
  rfl
theorem ll_next {K : JK} {l : Launch} {hE : JIH} {t a i j b : Nat} {ns : List Nat} {it : Nat → Nat} {mc : Int32} (F : JF K) (T : LLJ t hE a ns it mc i j) (hl : ns.length < 64) (hj : ns[j]? = some b) (ht : t ≠ 7) :
    Ct K l yJ41_next wJ41_next 1 [.ref i] hE (jRa (fun r h' => r = some (it b) ∧ LLJ t h' a ns it mc i (j + 1) ∧ Fr (fun x => x = 7) hE h' ∧ hres h' = hres hE)) jNo := by
  have hjl := (List.getElem?_eq_some_iff.mp hj).1
  have T' := T
  obtain ⟨T, lr, c⟩ := T
  obtain ⟨nx, pv, c1, c2, d1, d2⟩ := id T
  have hb := List.mem_of_getElem? hj
  have hnx := (Dl.idx d1 hj).1
  have hne : i ≠ b := c.apE (c2 b hb) (jO_ne (by decide))
  refine st_J41_next (ls := [some (.ref i)]) F rfl (body := fun M X => ?_)
  refine J.aload0 X dJ41_next_0 ?_
  refine J.callVv X dJ41_next_1 lk_J41_36_J41 ce_J41_checkForComodification (ll_comod F T') (by decide) rfl (c.1) rfl (fun h' e _ => ?_)
  subst e
  refine J.aload0 X dJ41_next_4 ?_
  refine J.callVi X dJ41_next_5 lk_J41_39_J41 ce_J41_hasNext (ll_has F T' hl (Nat.le_of_lt hjl)) (by decide) rfl (c.1) rfl (fun r h' e _ => ?_)
  obtain ⟨rfl, rfl⟩ := e
  refine J.if_neB (tgt := 19) X dJ41_next_8 (by decide) (fun _ => ?_) (fun q9 => absurd q9 (fun h => h hjl))
  rw [hj] at c
  refine J.aload0 X dJ41_next_19 ?_
  refine J.aload0 X dJ41_next_20 ?_
  refine J.getf X dJ41_next_21 fl_J41_29_J41 (c.1) rfl ?_
  refine J.fresh c.1 ?_
  refine J.putfS X dJ41_next_24 (pl_J41_46_J41 _) (c.1) (Nat.le_of_ble_eq_true rfl) (rfl) (rfl) ?_
  refine J.aload0 X dJ41_next_27 ?_
  refine J.aload0 X dJ41_next_28 ?_
  refine J.getf X dJ41_next_29 fl_J41_29_J41 ((hget_set_same _ c.1)) rfl ?_
  refine J.getf X dJ41_next_32 fl_J41_49_J39 (((hget_set_ne _ hne).trans (c2 b hb).1)) rfl ?_
  refine J.putfS X dJ41_next_35 (pl_J41_29_J41 _) (c.1) (Nat.le_of_ble_eq_true rfl) (nar_rf _ _) (fit_rf _ _) ?_
  refine J.aload0 X dJ41_next_38 ?_
  refine J.dup X dJ41_next_39 ?_
  refine J.getf X dJ41_next_40 fl_J41_33_J41 ((hget_set_same _ c.1)) rfl ?_
  refine J.iconst (v := nI 1) X dJ41_next_43 (by decide) ?_
  refine J.iaddN X dJ41_next_44 ?_
  refine J.putfS X dJ41_next_45 (pl_J41_33_J41 _) (c.1) (Nat.le_of_ble_eq_true rfl) (rfl) (rfl) ?_
  refine J.at (pc' := 48) rfl ?_
  refine J.aload0 X dJ41_next_48 ?_
  refine J.getf X dJ41_next_49 fl_J41_46_J41 ((hget_set_same _ c.1)) rfl ?_
  refine J.getf X dJ41_next_52 fl_J41_52_J39 (((hget_set_ne _ hne).trans (c2 b hb).1)) rfl ?_
  refine J.areturnO X dJ41_next_55 (jRa.ofR ?_)
  have f1 : Fr (fun x => x = 7) hE (hset hE i (jO 18 [.ref b, va_rf (nx b), .int (nI (j + 1)), .int mc, .ref a])) := Fr.set c rfl
  refine ⟨rfl, ⟨T.fr f1 ht, some b, ?_⟩, f1, ?_⟩
  · rw [← hnx]
    exact c.same _
  · refine hres_setS c ?_; rfl
