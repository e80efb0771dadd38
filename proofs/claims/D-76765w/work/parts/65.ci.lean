/-! constructors: Queue, Cache -/
theorem q_init {K : JK} {l : Launch} {hE : JIH} (F : JF K) {b i q c : Nat} (hi : aq i) (hf : hc hE (b + 6) q (jO 2 [.null, .int 0, .null])) (ccl : ∃ fs, hget hE c = some (jO 1 fs)) (hr : hres hE + 20 ≤ jRL) :
    Ct K l yX2_init wX2_init 4 [.ref q, .ref c] hE (jRv (fun h' => ∃ m, (∀ ea ka ta, LM K (b + i) h' m [] ea ka ta 0 0) ∧ hc h' (b + 6) q (jO 2 [.ref m, .int 0, .ref c]) ∧ (∀ a e, hc hE (b + 6) a e → q ≠ a → hc h' (b + 6) a e) ∧ Fr (fun x => x = b + i ∨ x = b + 6) hE h' ∧ hres h' = hres hE + 20)) jNo := by
  obtain ⟨fc, ccl⟩ := ccl
  have hi4 := hi.2
  have hi1 := hi.1
  have hq := hf.1
  refine st_X2_init (ls := [some (.ref q), some (.ref c)]) F rfl (body := fun M X => ?_)
  refine J.fresh hq ?_
  refine J.aload0 X dX2_init_0 ?_
  refine J.aload1 X dX2_init_1 ?_
  refine J.putfS X dX2_init_2 pl_X2_3_X2 (hq) (Nat.le_of_ble_eq_true rfl) (rfl) (rfl) ?_
  refine J.aload0 X dX2_init_5 ?_
  refine J.objInit X dX2_init_6 lk_X2_9 (by decide) ?_
  refine J.aload0 X dX2_init_9 ?_
  have c1 := hf.same (jO 2 [.null, .int 0, .ref c])
  have r1 : hres (hset hE q (jO 2 [.null, .int 0, .ref c])) = hres hE := by refine hres_setS hf ?_; rfl
  have f1 : Fr (fun x => x = b + i ∨ x = b + 6) hE (hset hE q (jO 2 [.null, .int 0, .ref c])) := Fr.set hf (Or.inr rfl)
  show J M (hset hE q (jO 2 [.null, .int 0, .ref c])) _ _ _
  have o1 : ∀ a e, hc hE (b + 6) a e → q ≠ a → hc (hset hE q (jO 2 [.null, .int 0, .ref c])) (b + 6) a e := fun a e z ne => z.ne _ ne
  generalize hset hE q (jO 2 [.null, .int 0, .ref c]) = h1 at c1 r1 f1 o1
  refine J.new (ci := 12) (b + i) X dX2_init_10 jcl_12 cl_X2_15 rfl ((by show _ + (8 + 12) ≤ _; omega)) ?_
  have c2 := c1.push (b + i) (jO 12 [.null, .null, .int 0, .int 0, .int 0, .float 0, .null, .null, .null, .null, .int 0, .int 0])
  refine J.dup X dX2_init_13 ?_
  refine J.callI X dX2_init_14 lk_X2_17 ce_J2_init (lh_init F (hget_push_new _ _ _)) (by decide) rfl (fun h2 e _ => ?_)
  obtain ⟨lf, rfl⟩ := e
  rw [hset_push_new]
  replace c2 := c1.push (b + i) (jO 12 [.null, .null, .int 0, .int 0, .int 0, lf, .null, .null, .null, .null, .int 0, .int 0])
  have c3 := hc.new h1 (b + i) (jO 12 [.null, .null, .int 0, .int 0, .int 0, lf, .null, .null, .null, .null, .int 0, .int 0])
  have hq2 := c2.1
  refine J.fresh hq2 ?_
  refine J.putfS X dX2_init_17 pl_X2_18_X2 (hq2) (Nat.le_of_ble_eq_true rfl) (rfl) (rfl) ?_
  refine J.vreturn X dX2_init_20 (jRv.of ?_)
  refine ⟨hnew h1, fun ea ka ta => LM.nil (c3.ne _ (hget_ne_new c1.1)) ea ka ta, c2.same _, fun a e z ne => ((o1 a e z ne).push _ _).ne _ ne, f1.tr ((Fr.push _ _ _ _).tr (Fr.set c2 (Or.inr rfl))), ?_⟩
  refine (hres_setS c2 ?_).trans ?_
  · rfl
  · rw [hres_push, r1]; rfl
/-- the empty cache -/
def s0A : AS := (fun _ => [], fun _ => 0, fun _ _ => 0)
def C0A (i : Nat) : Nat := if i = 0 then 20 else if i = 1 then 10 else if i = 2 then 2 else if i = 3 then 1 else 0
theorem AW.s0 : AW s0A := ⟨fun i j k _ _ h => (by cases h), fun i _ => List.nodup_nil, fun i k _ h => (by cases h)⟩
/-- a cache under construction: j queues made -/
def qv (q : Nat → Nat) (j i : Nat) : Value := if i ≤ j then .ref (q i) else .null
def k0O (q : Nat → Nat) (j : Nat) (d : Value) : List Value := [.int (nI 20), .int (nI 10), .int (nI 2), .int (nI 1), .int 0, .int 0, .int 0, .int 0, .int 0, .int 0, qv q j 1, qv q j 2, qv q j 3, qv q j 4, d, .int 0]
def KI (K : JK) (b c : Nat) (hE : JIH) (j : Nat) (h : JIH) : Prop := ∃ q m : Nat → Nat, hc h (b + 6) c (jO 1 (k0O q j .null)) ∧ (∀ i, aq i → i ≤ j → hc h (b + 6) (q i) (jO 2 [.ref (m i), .int 0, .ref c]) ∧ ∀ ea ka ta, LM K (b + i) h (m i) [] ea ka ta 0 0) ∧ (∀ i k, aq i → aq k → i ≤ j → k ≤ j → q i = q k → i = k) ∧ Fr (fun x => CT b x) hE h ∧ hres h = hres hE + 31 * j
theorem KI.step {K : JK} {b c : Nat} {hE : JIH} {j : Nat} {h h2 : JIH} {q m : Nat → Nat} {m' : Nat} (hb : b = 16 ∨ b = 32) (hj : aq (j + 1)) (g1 : hc h (b + 6) c (jO 1 (k0O q j .null))) (g2 : ∀ i, aq i → i ≤ j → hc h (b + 6) (q i) (jO 2 [.ref (m i), .int 0, .ref c]) ∧ ∀ ea ka ta, LM K (b + i) h (m i) [] ea ka ta 0 0) (g3 : ∀ i k, aq i → aq k → i ≤ j → k ≤ j → q i = q k → i = k) (g4 : Fr (fun x => CT b x) hE h) (g5 : hres h = hres hE + 31 * j)
    (L : ∀ ea ka ta, LM K (b + (j + 1)) h2 m' [] ea ka ta 0 0) (z1 : hc h2 (b + 6) (hnew h) (jO 2 [.ref m', .int 0, .ref c])) (z2 : ∀ a e, hc (hpush h (b + 6) (jO 2 [.null, .int 0, .null])) (b + 6) a e → hnew h ≠ a → hc h2 (b + 6) a e) (z3 : Fr (fun x => x = b + (j + 1) ∨ x = b + 6) (hpush h (b + 6) (jO 2 [.null, .int 0, .null])) h2) (z4 : hres h2 = hres (hpush h (b + 6) (jO 2 [.null, .int 0, .null])) + 20) :
    hc h2 (b + 6) c (jO 1 (k0O q j .null)) ∧ ∀ fs, fs = k0O (va_up q (j + 1) (hnew h)) (j + 1) .null → KI K b c hE (j + 1) (hset h2 c (jO 1 fs)) := by
  have hj4 := hj.2
  have cc := z2 _ _ (g1.push (b + 6) _) (hget_ne_new g1.1).symm
  refine ⟨cc, fun fs e => ?_⟩
  have ff : Fr (fun x => x = b + (j + 1) ∨ x = b + 6) h (hset h2 c (jO 1 fs)) := ((Fr.push _ _ _ _).tr z3).tr (Fr.set cc (Or.inr rfl))
  have fs6 : Fr (fun x => x = b + 6) h2 (hset h2 c (jO 1 fs)) := Fr.set cc rfl
  have nc : ∀ x e, hc h2 (b + 6) x (jO 2 e) → c ≠ x := fun x e z => cc.apE z (jO_ne (by decide))
  refine ⟨va_up q (j + 1) (hnew h), va_up m (j + 1) m', ?_, fun i hi hij => ?_, fun i k hi hk hij hkj e => ?_, g4.tr (ff.mono (fun x hx => by unfold CT; omega)), ?_⟩
  · rw [← e]; exact cc.same _
  · by_cases e : i = j + 1
    · subst e
      rw [va_up_self, va_up_self]
      exact ⟨z1.ne _ (nc _ _ z1), fun ea ka ta => (L ea ka ta).fr fs6 (by omega) (by omega)⟩
    · rw [va_up_ne _ _ e, va_up_ne _ _ e]
      obtain ⟨p1, p2⟩ := g2 i hi (by omega)
      have p3 := z2 _ _ (p1.push (b + 6) _) (hget_ne_new p1.1).symm
      exact ⟨p3.ne _ (nc _ _ p3), fun ea ka ta => (p2 ea ka ta).fr ff (by omega) (by omega)⟩
  · by_cases e1 : i = j + 1 <;> by_cases e2 : k = j + 1
    · omega
    · subst e1
      rw [va_up_self, va_up_ne _ _ e2] at e
      have := (g2 k hk (by omega)).1.lt
      omega
    · subst e2
      rw [va_up_self, va_up_ne _ _ e1] at e
      have := (g2 i hi (by omega)).1.lt
      omega
    · rw [va_up_ne _ _ e1, va_up_ne _ _ e2] at e
      exact g3 i k hi hk (by omega) (by omega) e
  · have : hres (hset h2 c (jO 1 fs)) = hres h2 := by refine hres_setS cc ?_; rw [e]; rfl
    rw [this, z4, hres_push]
    have e8 : esz (jO 2 [.null, .int 0, .null]) = 3 := rfl
    rw [e8]
    omega
theorem k_init {K : JK} {l : Launch} {hE : JIH} (F : JF K) {b c : Nat} (hb : b = 16 ∨ b = 32) (hf : hc hE (b + 6) c (jO 1 [.int 0, .int 0, .int 0, .int 0, .int 0, .int 0, .int 0, .int 0, .int 0, .int 0, .null, .null, .null, .null, .null, .int 0])) (hr : hres hE + 200 ≤ jRL) :
    Ct K l yX1_init wX1_init 5 [.ref c] hE (jRv (fun h' => ∃ y, CC K b h' c y s0A C0A [] (fun _ => 0) [] 0 ∧ Fr (fun x => CT b x) hE h' ∧ hres h' ≤ hres hE + 200)) jNo := by
  have ho := hf.1
  refine st_X1_init (ls := [some (.ref c)]) F rfl (body := fun M X => ?_)
  refine J.aload0 X dX1_init_0 ?_
  refine J.objInit X dX1_init_1 lk_X1_3 (by decide) ?_
  refine J.fresh ho ?_
  refine J.aload0 X dX1_init_4 ?_
  refine J.bipush (v := nI 20) X dX1_init_5 (by decide) ?_
  refine J.putfS X dX1_init_7 (pl_X1_9_X1 _) (ho) (Nat.le_of_ble_eq_true rfl) (rfl) (rfl) ?_
  refine J.aload0 X dX1_init_10 ?_
  refine J.bipush (v := nI 10) X dX1_init_11 (by decide) ?_
  refine J.putfS X dX1_init_13 (pl_X1_15_X1 _) (ho) (Nat.le_of_ble_eq_true rfl) (rfl) (rfl) ?_
  refine J.aload0 X dX1_init_16 ?_
  refine J.iconst (v := nI 2) X dX1_init_17 (by decide) ?_
  refine J.putfS X dX1_init_18 (pl_X1_18_X1 _) (ho) (Nat.le_of_ble_eq_true rfl) (rfl) (rfl) ?_
  refine J.aload0 X dX1_init_21 ?_
  refine J.iconst (v := nI 1) X dX1_init_22 (by decide) ?_
  refine J.putfS X dX1_init_23 (pl_X1_21_X1 _) (ho) (Nat.le_of_ble_eq_true rfl) (rfl) (rfl) ?_
  refine J.at (pc' := 26) rfl ?_
  refine J.aload0 X dX1_init_26 ?_
  have T : KI K b c hE 0 (hset hE c (jO 1 (k0O (fun _ => 0) 0 .null))) := by
    refine ⟨fun _ => 0, fun _ => 0, hf.same _, fun i hi z => absurd hi.1 (by omega), fun i k hi hk z => absurd hi.1 (by omega), Fr.set hf (by unfold CT; omega), ?_⟩
    refine (hres_setS hf ?_).trans ?_ <;> rfl
  show J M (hset hE c (jO 1 (k0O (fun _ => 0) 0 .null))) _ _ _
  generalize hset hE c (jO 1 (k0O (fun _ => 0) 0 .null)) = h0 at T
  obtain ⟨q, m, g1, g2, g3, g4, g5⟩ := T
  refine J.new (ci := 2) (b + 6) X dX1_init_27 jcl_2 cl_X1_24 rfl ((by show _ + (8 + 3) ≤ _; omega)) ?_
  show J M (hpush h0 (b + 6) (jO 2 [.null, .int 0, .null])) _ _ _
  have c1 := g1.push (b + 6) (jO 2 [.null, .int 0, .null])
  have c2 := hc.new h0 (b + 6) (jO 2 [.null, .int 0, .null])
  have e1 : hres (hpush h0 (b + 6) (jO 2 [.null, .int 0, .null])) = hres h0 + 11 := by rw [hres_push]; rfl
  refine J.dup X dX1_init_30 ?_
  refine J.aload0 X dX1_init_31 ?_
  refine J.callIN X dX1_init_32 lk_X1_26 ce_X2_init (q_init F aq1 c2 ⟨_, c1.1⟩ (by omega)) (by decide) rfl (fun h e _ => ?_)
  obtain ⟨m', z1, z2, z3, z4, z5⟩ := e
  have st := KI.step hb aq1 g1 g2 g3 g4 g5 z1 z2 z3 z4 z5
  have co := st.1.1
  refine J.fresh co ?_
  refine J.putfS X dX1_init_35 pl_X1_29_X1 (co) (Nat.le_of_ble_eq_true rfl) (rfl) (rfl) ?_
  refine J.aload0 X dX1_init_38 ?_
  have T := st.2 _ rfl
  show J M (hset h c (jO 1 (k0O (va_up q 1 (hnew h0)) 1 .null))) _ _ _
  generalize hset h c (jO 1 (k0O (va_up q 1 (hnew h0)) 1 .null)) = h1 at T
  clear co st z1 z2 z3 z4 z5 e1 c1 c2 g1 g2 g3 g4 g5
  obtain ⟨q, m, g1, g2, g3, g4, g5⟩ := T
  refine J.new (ci := 2) (b + 6) X dX1_init_39 jcl_2 cl_X1_24 rfl ((by show _ + (8 + 3) ≤ _; omega)) ?_
  show J M (hpush h1 (b + 6) (jO 2 [.null, .int 0, .null])) _ _ _
  have c1 := g1.push (b + 6) (jO 2 [.null, .int 0, .null])
  have c2 := hc.new h1 (b + 6) (jO 2 [.null, .int 0, .null])
  have e1 : hres (hpush h1 (b + 6) (jO 2 [.null, .int 0, .null])) = hres h1 + 11 := by rw [hres_push]; rfl
  refine J.dup X dX1_init_42 ?_
  refine J.aload0 X dX1_init_43 ?_
  refine J.callIN X dX1_init_44 lk_X1_26 ce_X2_init (q_init F aq2 c2 ⟨_, c1.1⟩ (by omega)) (by decide) rfl (fun h e _ => ?_)
  obtain ⟨m', z1, z2, z3, z4, z5⟩ := e
  have st := KI.step hb aq2 g1 g2 g3 g4 g5 z1 z2 z3 z4 z5
  have co := st.1.1
  refine J.fresh co ?_
  refine J.putfS X dX1_init_47 pl_X1_33_X1 (co) (Nat.le_of_ble_eq_true rfl) (rfl) (rfl) ?_
  refine J.aload0 X dX1_init_50 ?_
  have T := st.2 _ rfl
  show J M (hset h c (jO 1 (k0O (va_up q 2 (hnew h1)) 2 .null))) _ _ _
  generalize hset h c (jO 1 (k0O (va_up q 2 (hnew h1)) 2 .null)) = h2 at T
  clear co st z1 z2 z3 z4 z5 e1 c1 c2 g1 g2 g3 g4 g5
  obtain ⟨q, m, g1, g2, g3, g4, g5⟩ := T
  refine J.new (ci := 2) (b + 6) X dX1_init_51 jcl_2 cl_X1_24 rfl ((by show _ + (8 + 3) ≤ _; omega)) ?_
  show J M (hpush h2 (b + 6) (jO 2 [.null, .int 0, .null])) _ _ _
  have c1 := g1.push (b + 6) (jO 2 [.null, .int 0, .null])
  have c2 := hc.new h2 (b + 6) (jO 2 [.null, .int 0, .null])
  have e1 : hres (hpush h2 (b + 6) (jO 2 [.null, .int 0, .null])) = hres h2 + 11 := by rw [hres_push]; rfl
  refine J.dup X dX1_init_54 ?_
  refine J.aload0 X dX1_init_55 ?_
  refine J.callIN X dX1_init_56 lk_X1_26 ce_X2_init (q_init F aq3 c2 ⟨_, c1.1⟩ (by omega)) (by decide) rfl (fun h e _ => ?_)
  obtain ⟨m', z1, z2, z3, z4, z5⟩ := e
  have st := KI.step hb aq3 g1 g2 g3 g4 g5 z1 z2 z3 z4 z5
  have co := st.1.1
  refine J.fresh co ?_
  refine J.putfS X dX1_init_59 pl_X1_36_X1 (co) (Nat.le_of_ble_eq_true rfl) (rfl) (rfl) ?_
  refine J.aload0 X dX1_init_62 ?_
  have T := st.2 _ rfl
  show J M (hset h c (jO 1 (k0O (va_up q 3 (hnew h2)) 3 .null))) _ _ _
  generalize hset h c (jO 1 (k0O (va_up q 3 (hnew h2)) 3 .null)) = h3 at T
  clear co st z1 z2 z3 z4 z5 e1 c1 c2 g1 g2 g3 g4 g5
  obtain ⟨q, m, g1, g2, g3, g4, g5⟩ := T
  refine J.new (ci := 2) (b + 6) X dX1_init_63 jcl_2 cl_X1_24 rfl ((by show _ + (8 + 3) ≤ _; omega)) ?_
  show J M (hpush h3 (b + 6) (jO 2 [.null, .int 0, .null])) _ _ _
  have c1 := g1.push (b + 6) (jO 2 [.null, .int 0, .null])
  have c2 := hc.new h3 (b + 6) (jO 2 [.null, .int 0, .null])
  have e1 : hres (hpush h3 (b + 6) (jO 2 [.null, .int 0, .null])) = hres h3 + 11 := by rw [hres_push]; rfl
  refine J.dup X dX1_init_66 ?_
  refine J.aload0 X dX1_init_67 ?_
  refine J.callIN X dX1_init_68 lk_X1_26 ce_X2_init (q_init F aq4 c2 ⟨_, c1.1⟩ (by omega)) (by decide) rfl (fun h e _ => ?_)
  obtain ⟨m', z1, z2, z3, z4, z5⟩ := e
  have st := KI.step hb aq4 g1 g2 g3 g4 g5 z1 z2 z3 z4 z5
  have co := st.1.1
  refine J.fresh co ?_
  refine J.putfS X dX1_init_71 pl_X1_39_X1 (co) (Nat.le_of_ble_eq_true rfl) (rfl) (rfl) ?_
  refine J.aload0 X dX1_init_74 ?_
  have T := st.2 _ rfl
  show J M (hset h c (jO 1 (k0O (va_up q 4 (hnew h3)) 4 .null))) _ _ _
  generalize hset h c (jO 1 (k0O (va_up q 4 (hnew h3)) 4 .null)) = h4 at T
  clear co st z1 z2 z3 z4 z5 e1 c1 c2 g1 g2 g3 g4 g5
  obtain ⟨q, m, g1, g2, g3, g4, g5⟩ := T
  refine J.new (ci := 14) (b + 7) X dX1_init_75 jcl_14 cl_X1_42 rfl ((by show _ + (8 + 3) ≤ _; omega)) ?_
  show J M (hpush h4 (b + 7) (jO 14 [.null, .int 0, .int 0])) _ _ _
  have c2 := hc.new h4 (b + 7) (jO 14 [.null, .int 0, .int 0])
  have e1 : hres (hpush h4 (b + 7) (jO 14 [.null, .int 0, .int 0])) = hres h4 + 11 := by rw [hres_push]; rfl
  have f1 : Fr (fun x => x = b + 7) h4 (hpush h4 (b + 7) (jO 14 [.null, .int 0, .int 0])) := Fr.push _ _ _ _
  refine J.dup X dX1_init_78 ?_
  refine J.callI X dX1_init_79 lk_X1_44 ce_J4_init (dq_init F c2 (by omega)) (by decide) rfl (fun h5 e _ => ?_)
  obtain ⟨d5, f5, r5⟩ := e
  replace f5 := f1.tr f5
  have o5 := g1.fr f5 (by omega)
  have o51 := o5.1
  refine J.fresh o51 ?_
  refine J.putfS X dX1_init_82 pl_X1_45_X1 (o51) (Nat.le_of_ble_eq_true rfl) (rfl) (rfl) ?_
  refine J.vreturn X dX1_init_85 (jRv.of ?_)
  have f6 : Fr (fun x => x = b + 6) h5 (hset h5 c (jO 1 (k0O q 4 (.ref (hnew h4))))) := Fr.set o5 rfl
  have r6 : hres (hset h5 c (jO 1 (k0O q 4 (.ref (hnew h4))))) = hres h5 := by refine hres_setS o5 ?_; rfl
  refine ⟨(q, m, hnew h4), ⟨[], rfl, ⟨fun _ _ => 0, fun _ _ => 0, fun _ => 0, fun _ => 0, ⟨o5.same _, fun i hi => ?_, fun i hi => ?_, fun k hk => (by cases hk), fun k hk => (by cases hk), fun i k _ hk => (by cases hk), d5.fr f6 (by omega) (by omega), fun i k hi hk e => g3 i k hi hk hi.2 hk.2 e, hb⟩, rfl⟩, AW.s0, Nat.zero_le _⟩, (g4.tr (f5.mono (fun x hx => by unfold CT; omega))).tr (f6.mono (fun x hx => by unfold CT; omega)), ?_⟩
  · have := (g2 i hi hi.2).1.fr f5 (by omega)
    exact this.ne _ (o5.apE this (jO_ne (by decide)))
  · have := ((g2 i hi hi.2).2 (fun _ => 0) (fun _ => 0) (fun _ => 0)).fr f5 (by have := hi.2; omega) (by omega)
    exact this.fr f6 (by have := hi.2; omega) (by omega)
  · show hres (hset h5 c (jO 1 (k0O q 4 (.ref (hnew h4))))) ≤ _
    omega
