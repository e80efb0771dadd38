/-! Queue: one takes another's things, as copies -/
theorem q_takes {K : JK} {l : Launch} {hE : JIH} (F : JF K) {b b' i m m' qa qb c c' n n' : Nat} {Q Q' : List Nat} {ea ka ta ea' ka' ta' : Nat → Nat} {mc mc' w w' : Int32} {s' : AS} (hb : b = 16 ∧ b' = 32 ∨ b = 32 ∧ b' = 16) (hi : aq i) (hpn : ∀ k ∈ Q', s'.2.2 4 k ≤ 1) (L : LM K (b + i) hE m Q ea ka ta n mc) (L' : LM K (b' + i) hE m' Q' ea' ka' ta' n' mc') (cq : hc hE (b + 6) qa (jO 2 [.ref m, .int w, .ref c])) (cq' : hc hE (b' + 6) qb (jO 2 [.ref m', .int w', .ref c'])) (hth : ∀ k ∈ Q', hc hE (b' + 5) (ta' k) (jO 7 (thO s' k))) (hr : hres hE + 28 * Q'.length + 20000 ≤ jRL) :
    Ct K l yX2_takes wX2_takes 7 [.ref qa, .ref qb] hE (jRv (fun h' => ∃ (ea1 ka1 ta1 : Nat → Nat) (n1 : Nat) (mc1 : Int32), LM K (b + i) h' m Q' ea1 ka1 ta1 n1 mc1 ∧ LM K (b' + i) h' m' Q' ea' ka' ta' n' mc' ∧ (∀ k ∈ Q', hc h' (b + 5) (ta1 k) (jO 7 (thO s' k)) ∧ hnew hE ≤ ta1 k) ∧ (∀ k ∈ Q', ∀ j ∈ Q', ta1 k = ta1 j → k = j) ∧ hc h' (b + 6) qa (jO 2 [.ref m, .int w', .ref c]) ∧ Fr (fun x => x = b + i ∨ x = b' + i ∨ x = b + 6 ∨ x = 6) hE h' ∧ (∀ a e, hc hE (b + 6) a e → qa ≠ a → hc h' (b + 6) a e) ∧ hres h' + 3 * n ≤ hres hE + 23 + 28 * Q'.length + 3 * n1)) jNo := by
  have hi' := hi
  obtain ⟨i1, i4⟩ := hi'
  have hb1 : b + i ≠ 1 := by omega
  have hb1' : b' + i ≠ 1 := by omega
  obtain ⟨fs, ob⟩ := L.ob
  obtain ⟨fs', ob'⟩ := L'.ob
  refine st_X2_takes (ls := [some (.ref qa), some (.ref qb), none, none]) F rfl (body := fun M X => ?_)
  refine J.aload0 X dX2_takes_0 ?_
  refine J.getf X dX2_takes_1 fl_X2_18_X2 (cq.1) rfl ?_
  refine J.callVv X dX2_takes_4 lk_X2_101_J2 ce_J2_clear (c_clear F L) (by decide) rfl (ob.1) rfl (fun h1 e _ => ?_)
  obtain ⟨L1, f1, e1⟩ := e
  clear L ob
  have L1' := L'.fr f1 (by omega) (by omega)
  have cq1 := cq.fr f1 (by omega)
  have cq1' := cq'.fr f1 (by omega)
  obtain ⟨fs', ob'⟩ := L1'.ob
  refine J.aload1 X dX2_takes_7 ?_
  refine J.getf X dX2_takes_8 fl_X2_18_X2 (cq1'.1) rfl ?_
  refine J.callVa X dX2_takes_11 lk_X2_57_J2 ce_J2_entrySet (c_setEntry F L1' hb1' (by omega)) (by decide) rfl (ob'.1) rfl (fun r h2 e _ => ?_)
  obtain ⟨v, rfl, cv, L2', f2, e2⟩ := e
  have L2 := L1.fr f2 (by omega) (by omega)
  refine J.callFa X dX2_takes_14 lk_X2_61_J10 ce_J10_iterator (c_iterEntry F L2' cv.1 (by omega)) (by decide) rfl (cv.1) rfl (fun r h3 e _ => ?_)
  obtain ⟨rfl, e3⟩ := e
  have f3 := Fr.push (fun x => x = 6) h2 6 (jO 22 (itO (Option.map ea' Q'.head?) none mc' m'))
  have ci := hc.new h2 6 (jO 22 (itO (Option.map ea' Q'.head?) none mc' m'))
  have e4 := hres_push h2 6 (jO 22 (itO (Option.map ea' Q'.head?) none mc' m'))
  rw [← e3] at f3 ci e4
  generalize hnew h2 = it at ci
  have L3 := L2.fr f3 (by omega) (by omega)
  have L3' := L2'.fr f3 (by omega) (by omega)
  have ff : Fr (fun x => x = b + i ∨ x = b' + i ∨ x = 6) hE h3 := ((f1.mono (fun x hx => Or.inl hx)).tr (f2.mono (fun x hx => Or.inr (Or.inl hx)))).tr (f3.mono (fun x hx => Or.inr (Or.inr hx)))
  have cq3 := (cq1.fr f2 (by omega)).fr f3 (by omega)
  have cq3' := (cq1'.fr f2 (by omega)).fr f3 (by omega)
  have hth3 : ∀ k ∈ Q', hc h3 (b' + 5) (ta' k) (jO 7 (thO s' k)) := fun k hk => (hth k hk).fr ff (by omega)
  have ee : hres h3 + 3 * n ≤ hres hE + 23 + 28 * ([] : List Nat).length + 3 * n := by
    have : esz (jO 22 (itO (Option.map ea' Q'.head?) none mc' m')) = 5 := rfl
    rw [e4, this]
    show _ ≤ hres hE + 23 + 28 * 0 + 3 * n
    omega
  clear e3 e4 f1 f2 f3 L1 L1' L2 L2' L' cq cq' cq1 cq1' cv hth e1 e2 ob'
  refine J.astore2 X dX2_takes_19 ?_
  suffices loop : ∀ (r p : List Nat) (h : JIH) (cur : Option Nat) (x3 : Option Value) (ea1 ka1 ta1 : Nat → Nat) (n1 : Nat) (mc1 : Int32), Q' = p ++ r → LM K (b + i) h m p ea1 ka1 ta1 n1 mc1 → LM K (b' + i) h m' Q' ea' ka' ta' n' mc' → (∀ k ∈ p, hc h (b + 5) (ta1 k) (jO 7 (thO s' k)) ∧ hnew hE ≤ ta1 k) → (∀ k ∈ p, ∀ j ∈ p, ta1 k = ta1 j → k = j) → hc h (b + 6) qa (jO 2 [.ref m, .int w, .ref c]) → hc h (b' + 6) qb (jO 2 [.ref m', .int w', .ref c']) → (∀ k ∈ Q', hc h (b' + 5) (ta' k) (jO 7 (thO s' k))) → hc h 6 it (jO 22 (itO (Option.map ea' r.head?) cur mc' m')) → Fr (fun x => x = b + i ∨ x = b' + i ∨ x = 6) hE h → hres h + 3 * n ≤ hres hE + 23 + 28 * p.length + 3 * n1 → J M h 20 [some (.ref qa), some (.ref qb), some (.ref it), x3] [] from loop Q' [] h3 none none ea ka ta n (mc + nI 1) rfl L3 L3' (fun k hk => by cases hk) (fun k hk => by cases hk) cq3 cq3' hth3 ci ff ee
  clear L3 L3' cq3 cq3' hth3 ci ff ee
  intro r
  induction r with
  | nil =>
    intro p h cur x3 ea1 ka1 ta1 n1 mc1 hQ L L' hn hj cq cq' hth ci ff ee
    rw [List.append_nil] at hQ
    subst hQ
    refine J.aload2 X dX2_takes_20 ?_
    refine J.callFi X dX2_takes_21 lk_X2_67_J12 ce_J11_hasNext (it_hasEntry F ci.1) (by decide) rfl (ci.1) rfl (fun r' h' e _ => ?_)
    obtain ⟨rfl, rfl⟩ := e
    refine J.if_eqB (tgt := 75) X dX2_takes_26 (by decide) (fun _ => ?_) (fun q9 => absurd q9 (fun h => by cases h))
    refine J.aload0 X dX2_takes_75 ?_
    refine J.aload1 X dX2_takes_76 ?_
    refine J.getf X dX2_takes_77 fl_X2_31_X2 (cq'.1) rfl ?_
    refine J.fresh cq.1 ?_
    refine J.putfS X dX2_takes_80 (pl_X2_31_X2 _) (cq.1) (Nat.le_of_ble_eq_true rfl) (rfl) (rfl) ?_
    refine J.vreturn X dX2_takes_83 (jRv.of ?_)
    have f4 : Fr (fun x => x = b + 6) h (hset h qa (jO 2 [.ref m, .int w', .ref c])) := Fr.set cq rfl
    refine ⟨ea1, ka1, ta1, n1, mc1, L.fr f4 (by omega) (by omega), L'.fr f4 (by omega) (by omega), fun k hk => ⟨(hn k hk).1.fr f4 (by omega), (hn k hk).2⟩, hj, cq.same _, (ff.mono (fun x hx => by omega)).tr (f4.mono (fun x hx => Or.inr (Or.inr (Or.inl hx)))), fun a e z ne => (z.fr ff (by omega)).ne _ ne, ?_⟩
    have : hres (hset h qa (jO 2 [.ref m, .int w', .ref c])) = hres h := by refine hres_setS cq ?_; rfl
    show hres (hset h qa (jO 2 [.ref m, .int w', .ref c])) + _ ≤ _
    rw [this]
    exact ee
  | cons k r ih =>
    intro p h cur x3 ea1 ka1 ta1 n1 mc1 hQ L L' hn hj cq cq' hth ci ff ee
    have hk : k ∈ Q' := by rw [hQ]; exact List.mem_append_right _ List.mem_cons_self
    have hkp : k ∉ p := fun z => by
      have := L'.nodup
      rw [hQ] at this
      exact (List.nodup_append.mp this).2.2 k z k List.mem_cons_self rfl
    have hlen : p.length + 1 ≤ Q'.length := by rw [hQ, List.length_append, List.length_cons]; omega
    have hn1 := L.n1
    refine J.aload2 X dX2_takes_20 ?_
    refine J.callFi X dX2_takes_21 lk_X2_67_J12 ce_J11_hasNext (it_hasEntry F ci.1) (by decide) rfl (ci.1) rfl (fun r' h' e _ => ?_)
    obtain ⟨rfl, rfl⟩ := e
    refine J.if_eqB (tgt := 75) X dX2_takes_26 (by decide) (fun q9 => absurd q9 (fun h => h rfl)) (fun _ => ?_)
    refine J.aload2 X dX2_takes_29 ?_
    refine J.callFa X dX2_takes_30 lk_X2_72_J12 ce_J12_next (c_nextEntry F L' hQ ci.1) (by decide) rfl (ci.1) rfl (fun r' h' e _ => ?_)
    obtain ⟨rfl, e2⟩ := e
    have f2 : Fr (fun x => x = 6) h (hset h it (jO 22 (itO (Option.map ea' r.head?) (some (ea' k)) mc' m'))) := Fr.set ci rfl
    have e3 : hres (hset h it (jO 22 (itO (Option.map ea' r.head?) (some (ea' k)) mc' m'))) = hres h := by refine hres_setS ci ?_; rfl
    replace ci := ci.same (jO 22 (itO (Option.map ea' r.head?) (some (ea' k)) mc' m'))
    rw [← e2] at f2 e3 ci
    clear e2
    replace L := L.fr f2 (by omega) (by omega)
    replace L' := L'.fr f2 (by omega) (by omega)
    replace cq := cq.fr f2 (by omega)
    replace cq' := cq'.fr f2 (by omega)
    replace hth : ∀ k ∈ Q', hc h' (b' + 5) (ta' k) (jO 7 (thO s' k)) := fun k hk => (hth k hk).fr f2 (by omega)
    replace hn : ∀ k ∈ p, hc h' (b + 5) (ta1 k) (jO 7 (thO s' k)) ∧ hnew hE ≤ ta1 k := fun k hk => ⟨(hn k hk).1.fr f2 (by omega), (hn k hk).2⟩
    replace ff := ff.tr (f2.mono (fun x hx => Or.inr (Or.inr hx)))
    rw [← e3] at ee
    clear f2 e3
    obtain ⟨x3', x4', x5', ce⟩ := L'.ent hk
    have ck := L'.key hk
    obtain ⟨fs, ob⟩ := L.ob
    refine J.castO X dX2_takes_35 cl_X2_76 jcl_13 q1200 (ce.1) ?_
    refine J.astore3 X dX2_takes_38 ?_
    refine J.aload0 X dX2_takes_39 ?_
    refine J.getf X dX2_takes_40 fl_X2_18_X2 (cq.1) rfl ?_
    refine J.aload3 X dX2_takes_43 ?_
    refine J.callFa X dX2_takes_44 lk_X2_80_J34 ce_J33_getKey (en_key F ce.1) (by decide) rfl (ce.1) rfl (fun r' h4 e _ => ?_)
    obtain ⟨rfl, rfl⟩ := e
    refine J.castS X dX2_takes_49 cl_X2_83 jcl_8 (ck.2.1) ?_
    refine J.new (ci := 7) (b + 5) X dX2_takes_52 jcl_7 cl_X2_47 rfl ((by show _ + (8 + 6) ≤ _; omega)) ?_
    have f4 := Fr.push (fun x => x = 6) h' (b + 5) (jO 7 [.int 0, .int 0, .int 0, .int 0, .int 0, .int 0])
    have ce1 := ce.fr f4 (by omega)
    have ct1 := (hth k hk).fr f4 (by omega)
    refine J.dup X dX2_takes_55 ?_
    refine J.aload3 X dX2_takes_56 ?_
    refine J.callFa X dX2_takes_57 lk_X2_85_J34 ce_J33_getValue (en_val F ce1.1) (by decide) rfl (ce1.1) rfl (fun r' h4 e _ => ?_)
    obtain ⟨rfl, rfl⟩ := e
    refine J.castS X dX2_takes_62 cl_X2_47 jcl_7 (ct1.1) ?_
    refine J.callI X dX2_takes_65 lk_X2_104 ce_X7_init_3 (th_init3 F (hget_push_new _ _ _) (by have := hpn k hk; omega) ct1.1 (hget_ne_new (hth k hk).1).symm) (by decide) rfl (fun h4 e _ => ?_)
    subst e
    rw [hset_push_new]
    clear f4 ce1 ct1
    have f4 := Fr.push (fun x => x = 6) h' (b + 5) (jO 7 (thO s' k))
    have cn := hc.new h' (b + 5) (jO 7 (thO s' k))
    have e5 := hres_push h' (b + 5) (jO 7 (thO s' k))
    have hge : hnew hE ≤ hnew h' := ff.2.1
    have hlt : ∀ j ∈ p, ta1 j ≠ hnew h' := fun j hj => Nat.ne_of_lt (hn j hj).1.lt
    show J M (hpush h' (b + 5) (jO 7 (thO s' k))) _ _ _
    replace L := L.fr f4 (by omega) (by omega)
    replace L' := L'.fr f4 (by omega) (by omega)
    replace cq := cq.fr f4 (by omega)
    replace cq' := cq'.fr f4 (by omega)
    replace hth : ∀ k ∈ Q', hc _ (b' + 5) (ta' k) (jO 7 (thO s' k)) := fun k hk => (hth k hk).fr f4 (by omega)
    replace hn : ∀ k ∈ p, hc _ (b + 5) (ta1 k) (jO 7 (thO s' k)) ∧ hnew hE ≤ ta1 k := fun k hk => ⟨(hn k hk).1.fr f4 (by omega), (hn k hk).2⟩
    replace ci := ci.push (b + 5) (jO 7 (thO s' k))
    replace ff := ff.tr (f4.mono (fun x hx => Or.inr (Or.inr hx)))
    have e6 : hres (hpush h' (b + 5) (jO 7 (thO s' k))) = hres h' + 14 := e5
    generalize hpush h' (b + 5) (jO 7 (thO s' k)) = h5 at L L' cq cq' hth hn ci ff e6 cn
    generalize hnew h' = tA at cn hge hlt
    obtain ⟨fs, ob⟩ := L.ob
    refine J.callUa X dX2_takes_68 lk_X2_42_J2 ce_J1_put (c_put F L (v := tA) (L'.key hk) hkp hb1 (by omega)) (by decide) rfl (ob.1) rfl (fun r' h6 e _ => ?_)
    obtain ⟨rfl, a', n2, L6, f6, h6a, h6b⟩ := e
    refine J.pop X dX2_takes_71 ?_
    refine J.goto (tgt := 20) X dX2_takes_72 (by decide) ?_
    have f6' := f6.mono (T' := fun x => x = b + i ∨ x = b' + i ∨ x = 6) (fun x hx => Or.inl hx)
    refine ih (p ++ [k]) h6 _ _ _ _ _ _ _ (by rw [hQ]; simp) L6 (L'.fr f6 (by omega) (by omega)) (fun j hj' => ?_) (fun j hj' j2 hj2 z => ?_) (cq.fr f6 (by omega)) (cq'.fr f6 (by omega)) (fun k hk => (hth k hk).fr f6 (by omega)) (ci.fr f6 (by omega)) (ff.tr f6') ?_
    · rcases List.mem_append.mp hj' with hj' | hj'
      · rw [va_up_ne _ _ (fun e => hkp (by rw [← e]; exact hj'))]
        exact ⟨(hn j hj').1.fr f6 (by omega), (hn j hj').2⟩
      · rw [List.mem_singleton.mp hj', va_up_self]
        exact ⟨cn.fr f6 (by omega), hge⟩
    · rcases List.mem_append.mp hj' with hj' | hj' <;> rcases List.mem_append.mp hj2 with hj2 | hj2
      · rw [va_up_ne _ _ (fun e => hkp (by rw [← e]; exact hj')), va_up_ne _ _ (fun e => hkp (by rw [← e]; exact hj2))] at z
        exact hj j hj' j2 hj2 z
      · rw [va_up_ne _ _ (fun e => hkp (by rw [← e]; exact hj')), List.mem_singleton.mp hj2, va_up_self] at z
        exact absurd z (hlt j hj')
      · rw [List.mem_singleton.mp hj', va_up_self, va_up_ne _ _ (fun e => hkp (by rw [← e]; exact hj2))] at z
        exact absurd z.symm (hlt j2 hj2)
      · rw [List.mem_singleton.mp hj', List.mem_singleton.mp hj2]
    · rw [List.length_append, List.length_singleton]
      omega
