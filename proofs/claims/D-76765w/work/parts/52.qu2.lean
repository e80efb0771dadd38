/-! Queue: the oldest -/
theorem CI.map6 {K : JK} {b : Nat} {h h' : JIH} {c : Nat} {y : CY} {s : AS} {C : Nat → Nat} {P : List (Nat × Nat)} {w : Nat → Int32} {bo : Int32} {ta : Nat → Nat} {D : List Nat} {ea ka : Nat → Nat → Nat} {n : Nat → Nat} {mc : Nat → Int32} {i : Nat} (S : CI K b h c y s C P w bo ta D ea ka n mc) (hi : aq i) (g : Fr (fun x => x = b + i ∨ x = 6) h h') {Q' : List Nat} {ea' ka' ta' : Nat → Nat} {n' : Nat} {mc' : Int32} (L : LM K (b + i) h' (y.2.1 i) Q' ea' ka' ta' n' mc') (hQ : ∀ k ∈ Q', k ∈ D) (hta : ∀ k ∈ D, ta' k = ta k) : CI K b h' c y (upQ s i Q') C P w bo ta' D (va_up ea i ea') (va_up ka i ka') (va_up n i n') (va_up mc i mc') := by
  obtain ⟨c1, c2, c3, c4, c5, c6, c7, c8, c9⟩ := S
  have hi' := hi
  obtain ⟨l1, l2⟩ := hi'
  refine ⟨c1.fr g (by omega), fun j hj => (c2 j hj).fr g (by omega), fun j hj => ?_, fun k hk => ?_, fun k hk k' hk' e => ?_, fun j k hj hk => ?_, c7.fr g (by omega) (by omega), c8, c9⟩
  · rw [upQ_1]
    by_cases e : j = i
    · subst e
      rw [if_pos rfl, va_up_self, va_up_self, va_up_self, va_up_self]
      exact L
    · rw [if_neg e, va_up_ne _ _ e, va_up_ne _ _ e, va_up_ne _ _ e, va_up_ne _ _ e]
      exact ((c3 j hj).fr g (by omega) (by omega)).congr (fun k hk => ⟨rfl, hta k (c6 j k hj hk)⟩)
  · rw [hta k hk]
    exact (c4 k hk).fr g (by omega)
  · rw [hta k hk, hta k' hk'] at e
    exact c5 k hk k' hk' e
  · rw [upQ_1] at hk
    by_cases e : j = i
    · rw [if_pos e] at hk; exact hQ k hk
    · rw [if_neg e] at hk; exact c6 j k hj hk
theorem b6 {b : Nat} (h : b = 16 ∨ b = 32) : ∀ x, b + 1 ≤ x → x ≤ b + 7 → ¬ x = 6 := by omega
theorem upQ_id (s : AS) (i : Nat) : upQ s i (s.1 i) = s := by unfold upQ; rw [va_upid]
theorem q_oldest {K : JK} {l : Launch} {hE : JIH} {b c : Nat} {y : CY} {s : AS} {C : Nat → Nat} {P : List (Nat × Nat)} {w : Nat → Int32} {bo : Int32} {ta : Nat → Nat} {D : List Nat} {tz : Nat}  (F : JF K) (S : CR K b hE c y s C P w bo ta D tz) (hA : AW s) {i : Nat} (hi : aq i) (rm : RM hE tz (33 + 10 * npin s i)) :
    Ct K l yX2_oldest wX2_oldest 6 [.ref (y.1 i)] hE (jRa (fun r h' => (aold s i = none ∧ r = none ∧ CR K b h' c y s C P w bo ta D tz ∧ CF b hE tz (33 + 10 * npin s i) h' tz) ∨ (∃ k g a, aold s i = some k ∧ r = some g ∧ hc h' 9 g (jO 6 [.ref a, .ref (ta k)]) ∧ IsKey h' a k ∧ CR K b h' c y (aout s i k) C P (va_up w i (w i + -nI (s.2.2 0 k))) (if i ≤ 2 then bo + -nI (s.2.2 0 k) else bo) ta D tz ∧ CF b hE tz (33 + 10 * npin s i) h' tz))) jNo := by
  have r8 := S.rm8 rm
  obtain ⟨fs, ob⟩ := S.mp hi
  have hb := S.bb
  have hi' := hi
  obtain ⟨l1', l2'⟩ := hi'
  have hb1 : b + i ≠ 1 := by omega
  have hb6 : b + i ≠ 6 := by omega
  refine st_X2_oldest (ls := [some (.ref (y.1 i)), none, none, none]) F rfl (body := fun M X => ?_)
  have qo := (S.q hi).1
  obtain ⟨ea, ka, n, mc, S, rfl⟩ := S
  refine J.aload0 X dX2_oldest_0 ?_
  refine J.getf X dX2_oldest_1 fl_X2_18_X2 (qo) rfl ?_
  refine J.callVa X dX2_oldest_4 lk_X2_57_J2 ce_J2_entrySet (c_setEntry F (S.2.2.1 i hi) hb1 (by omega)) (by decide) rfl (ob.1) rfl (fun r h1 e _ => ?_)
  obtain ⟨v, rfl, cv, L, f1, e1⟩ := e
  have S1 := S.map hi f1 L (S.2.2.2.2.2.1 i · hi) (fun _ _ => rfl)
  rw [upQ_id, va_upid, va_upid, va_upid, va_upid] at S1
  clear S L
  refine J.callFa X dX2_oldest_7 lk_X2_61_J10 ce_J10_iterator (c_iterEntry F (S1.2.2.1 i hi) cv.1 (by omega)) (by decide) rfl (cv.1) rfl (fun r h2 e _ => ?_)
  obtain ⟨rfl, e2⟩ := e
  have f2 := Fr.push (fun x => x = 6) h1 6 (jO 22 (itO (Option.map (ea i) (s.1 i).head?) none (mc i) (y.2.1 i)))
  have ci := hc.new h1 6 (jO 22 (itO (Option.map (ea i) (s.1 i).head?) none (mc i) (y.2.1 i)))
  have e3 := hres_push h1 6 (jO 22 (itO (Option.map (ea i) (s.1 i).head?) none (mc i) (y.2.1 i)))
  rw [← e2] at f2 ci e3
  have S2 := S1.fr f2 (b6 hb) (by decide)
  have f3 : FV b hE h2 := (fr_q hi f1).tr (fr_6 f2)
  have e4 : hres h2 ≤ hres hE + 23 + 10 * ([] : List Nat).length := by
    have : esz (jO 22 (itO (Option.map (ea i) (s.1 i).head?) none (mc i) (y.2.1 i))) = 5 := rfl
    rw [e3, this]
    show _ ≤ hres hE + 23 + 10 * 0
    omega
  clear e2 e3 f2 S1
  generalize hnew h1 = it at ci
  refine J.astore1 X dX2_oldest_12 ?_
  suffices loop : ∀ (r l1 : List Nat) (h : JIH) (cur : Option Nat) (x2 x3 : Option Value), s.1 i = l1 ++ r → (∀ x ∈ l1, s.2.2 4 x ≠ 0) → CI K b h c y s C P w bo ta D ea ka n mc → hc h 6 it (jO 22 (itO (Option.map (ea i) r.head?) cur (mc i) (y.2.1 i))) → FV b hE h → hres h ≤ hres hE + 23 + 10 * l1.length → jcat x2 = true → J M h 13 [some (.ref (y.1 i)), some (.ref it), x2, x3] [] from loop (s.1 i) [] h2 none none none rfl (fun x hx => by cases hx) S2 ci f3 e4 rfl
  clear S2 ci f3 e4 cv f1 e1
  intro r
  induction r with
  | nil =>
    intro l1 h cur x2 x3 hl hp S ci ff ee hx2
    have hnp := npin_pre hl hp
    refine J.aload1 X dX2_oldest_13 ?_
    refine J.callFi X dX2_oldest_14 lk_X2_67_J12 ce_J11_hasNext (it_hasEntry F ci.1) (by decide) rfl (ci.1) rfl (fun r' h' e _ => ?_)
    obtain ⟨rfl, rfl⟩ := e
    refine J.if_eqB (tgt := 91) X dX2_oldest_19 (by decide) (fun _ => ?_) (fun q9 => absurd q9 (fun h => by cases h))
    refine J.aconst_null X dX2_oldest_91 ?_
    refine J.areturnO X dX2_oldest_92 (jRa.ofN ?_)
    refine Or.inl ⟨?_, rfl, ⟨ea, ka, n, mc, S, rfl⟩, ff, by omega⟩
    rw [aold_pre hl hp]
    rfl
  | cons k r ih =>
    intro l1 h cur x2 x3 hl hp S ci ff ee hx2
    have hnp := npin_pre hl hp
    have hk : k ∈ s.1 i := by rw [hl]; exact List.mem_append_right _ List.mem_cons_self
    have hkA := hA.2.2 i k hi hk
    have hkD := S.2.2.2.2.2.1 i k hi hk
    refine J.aload1 X dX2_oldest_13 ?_
    refine J.callFi X dX2_oldest_14 lk_X2_67_J12 ce_J11_hasNext (it_hasEntry F ci.1) (by decide) rfl (ci.1) rfl (fun r' h' e _ => ?_)
    obtain ⟨rfl, rfl⟩ := e
    refine J.if_eqB (tgt := 91) X dX2_oldest_19 (by decide) (fun q9 => absurd q9 (fun h => h rfl)) (fun _ => ?_)
    refine J.aload1 X dX2_oldest_22 ?_
    refine J.callFa X dX2_oldest_23 lk_X2_72_J12 ce_J12_next (c_nextEntry F (S.2.2.1 i hi) hl ci.1) (by decide) rfl (ci.1) rfl (fun r' h' e _ => ?_)
    obtain ⟨rfl, e2⟩ := e
    have f2 : Fr (fun x => x = 6) h (hset h it (jO 22 (itO (Option.map (ea i) r.head?) (some (ea i k)) (mc i) (y.2.1 i)))) := Fr.set ci rfl
    have e3 : hres (hset h it (jO 22 (itO (Option.map (ea i) r.head?) (some (ea i k)) (mc i) (y.2.1 i)))) = hres h := by refine hres_setS ci ?_; rfl
    replace ci := ci.same (jO 22 (itO (Option.map (ea i) r.head?) (some (ea i k)) (mc i) (y.2.1 i)))
    rw [← e2] at f2 e3 ci
    clear e2
    replace S := S.fr f2 (b6 hb) (by decide)
    obtain ⟨x3', x4', x5', ce⟩ := (S.2.2.1 i hi).ent hk
    have ck := (S.2.2.1 i hi).key hk
    have ct := S.2.2.2.1 k hkD
    refine J.castO X dX2_oldest_28 cl_X2_76 jcl_13 q1200 (ce.1) ?_
    refine J.astore2 X dX2_oldest_31 ?_
    refine J.new (ci := 6) (9) X dX2_oldest_32 jcl_6 cl_X2_78 rfl ((by rw [e3]; show _ + (8 + 2) ≤ _; omega)) ?_
    have f4 := Fr.push (fun x => x = 6) h' 9 (jO 6 [.null, .null])
    have e5 := hres_push h' 9 (jO 6 [.ref (ka i k), .ref (ta k)])
    have ce1 := ce.fr f4 hb6
    have ck1 := ck.fr f4 (by decide)
    have ct1 := ct.fr f4 (by omega)
    refine J.dup X dX2_oldest_35 ?_
    refine J.aload2 X dX2_oldest_36 ?_
    refine J.callFa X dX2_oldest_37 lk_X2_80_J34 ce_J33_getKey (en_key F ce1.1) (by decide) rfl (ce1.1) rfl (fun r' h3 e _ => ?_)
    obtain ⟨rfl, rfl⟩ := e
    refine J.castS X dX2_oldest_42 cl_X2_83 jcl_8 (ck1.2.1) ?_
    refine J.aload2 X dX2_oldest_45 ?_
    refine J.callFa X dX2_oldest_46 lk_X2_85_J34 ce_J33_getValue (en_val F ce1.1) (by decide) rfl (ce1.1) rfl (fun r' h3 e _ => ?_)
    obtain ⟨rfl, rfl⟩ := e
    refine J.castS X dX2_oldest_51 cl_X2_47 jcl_7 (ct1.1) ?_
    refine J.callI X dX2_oldest_54 lk_X2_88 ce_X6_init (go_init F (hget_push_new _ _ _)) (by decide) rfl (fun h3 e _ => ?_)
    subst e
    rw [hset_push_new]
    clear f4 ce1 ck1 ct1
    have f4 := Fr.push (fun x => x = 6) h' 9 (jO 6 [.ref (ka i k), .ref (ta k)])
    have cg := hc.new h' 9 (jO 6 [.ref (ka i k), .ref (ta k)])
    replace S := S.fr f4 (b6 hb) (by decide)
    replace ci := ci.push 9 (jO 6 [.ref (ka i k), .ref (ta k)])
    have ff2 : FV b hE (hpush h' 9 (jO 6 [.ref (ka i k), .ref (ta k)])) := (ff.tr (fr_6 f2)).tr (fr_6 f4)
    have ee2 : hres (hpush h' 9 (jO 6 [.ref (ka i k), .ref (ta k)])) ≤ hres hE + 23 + 10 * (l1 ++ [k]).length := by
      rw [e5, e3, List.length_append]
      show hres h + (8 + 2) ≤ hres hE + 23 + 10 * (l1.length + 1)
      omega
    generalize hpush h' 9 (jO 6 [.ref (ka i k), .ref (ta k)]) = h3 at cg S ci ff2 ee2
    generalize hnew h' = gA at cg
    rw [List.length_append, List.length_singleton] at ee2
    have ct := S.2.2.2.1 k hkD
    refine J.astore3 X dX2_oldest_57 ?_
    refine J.aload3 X dX2_oldest_58 ?_
    refine J.getf X dX2_oldest_59 fl_X2_91_X6 (cg.1) rfl ?_
    refine J.getf X dX2_oldest_62 fl_X2_95_X7 (ct.1) rfl ?_
    refine J.if_eqN (tgt := 71) X dX2_oldest_65 (by decide) (by omega) (fun c1 => ?_) (fun c1 => ?_)
    · skip
      refine J.aload1 X dX2_oldest_71 ?_
      refine J.callFv X dX2_oldest_72 lk_X2_99_J12 ce_J11_remove (c_itRemove F (S.2.2.1 i hi) hk ci hb6 hb1) (by decide) rfl (ci.1) rfl (fun h4 e _ => ?_)
      obtain ⟨L, f5, e6⟩ := e
      have ck := (S.2.2.1 i hi).key hk
      have S5 := S.map6 hi f5 L (fun x hx => S.2.2.2.2.2.1 i x hi (List.mem_of_mem_erase hx)) (fun _ _ => rfl)
      have S6 : CR K b h4 c y (aout s i k) C P w bo ta D (tzs n) := ⟨_, _, _, _, S5, by have := tzs_up n hi (n i); omega⟩
      have ck4 := ck.fr f5 (by omega)
      have cg4 := cg.fr f5 (by omega)
      refine J.aload0 X dX2_oldest_77 ?_
      refine J.aload3 X dX2_oldest_78 ?_
      refine J.getf X dX2_oldest_79 fl_X2_91_X6 (cg4.1) rfl ?_
      refine J.getf X dX2_oldest_82 fl_X2_46_X7 ((S6.th hkD).1) rfl ?_
      refine J.ineg X dX2_oldest_85 ?_
      refine J.callVv X dX2_oldest_86 lk_X2_49_X2 ce_X2_weighs (q_weighs F S6 hi (-nI (s.2.2 0 k))) (by decide) rfl ((S6.q hi).1) rfl (fun h5 e _ => ?_)
      obtain ⟨S7, f7, e7⟩ := e
      refine J.aload3 X dX2_oldest_89 ?_
      refine J.areturnO X dX2_oldest_90 (jRa.ofR ?_)
      refine Or.inr ⟨k, gA, ka i k, ?_, rfl, cg4.fr f7 (by omega), ck4.fr f7 (by omega), S7, ?_, ?_⟩
      · rw [aold_pre hl hp, List.find?_cons_of_pos (by simpa using c1)]
      · exact (ff2.tr (FV.of f5 (fun x hx => hx.elim (fun z => by rw [z]; exact CT.q hi) (fun z => Or.inr z)) (fun hb => by omega))).tr (fr_b6 f7)
      · rw [e7, e6]; omega
    · skip
      refine J.goto (tgt := 13) X dX2_oldest_68 (by decide) ?_
      refine ih (l1 ++ [k]) h3 _ _ _ (by rw [hl]; simp) (fun x hx => ?_) S ci ff2 (by rw [List.length_append, List.length_singleton]; exact ee2) rfl
      rcases List.mem_append.mp hx with hx | hx
      · exact hp x hx
      · rw [List.mem_singleton.mp hx]; exact c1
