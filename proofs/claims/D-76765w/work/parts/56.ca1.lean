/-! Cache: queues, where, goes -/
/-- A CACHE AS IT IS BETWEEN ITS METHODS: G the keys that went, the latest first -/
def CC (K : JK) (b : Nat) (h : JIH) (c : Nat) (y : CY) (s : AS) (C : Nat → Nat) (G : List Nat) (ta : Nat → Nat) (D : List Nat) (tz : Nat) : Prop := ∃ P : List (Nat × Nat), P.map Prod.snd = G ∧ CR K b h c y s C P (wS s) (bS s) ta D tz ∧ AW s ∧ G.length ≤ 20
theorem CC.fr {K : JK} {b : Nat} {h h' : JIH} {c : Nat} {y : CY} {s : AS} {C : Nat → Nat} {G : List Nat} {ta : Nat → Nat} {D : List Nat} {tz : Nat} {T : Nat → Prop} (S : CC K b h c y s C G ta D tz) (g : Fr T h h') (ht : ∀ x, b + 1 ≤ x → x ≤ b + 7 → ¬ T x) (h1 : ¬ T 1) : CC K b h' c y s C G ta D tz := by
  obtain ⟨P, e, S, A⟩ := S
  exact ⟨P, e, S.fr g ht h1, A⟩
theorem k_oldest {K : JK} {l : Launch} {hE : JIH} {b c : Nat} {y : CY} {s : AS} {C : Nat → Nat} {G : List Nat} {ta : Nat → Nat} {D : List Nat} {tz : Nat}  (F : JF K) (S : CC K b hE c y s C G ta D tz) {i p : Nat} (hi : aq i) (hp : npin s i ≤ p) (rm : RM hE tz (33 + 10 * p)) :
    Ct K l yX2_oldest wX2_oldest 6 [.ref (y.1 i)] hE (jRa (fun r h' => (aold s i = none ∧ r = none ∧ CC K b h' c y s C G ta D tz ∧ CF b hE tz (33 + 10 * p) h' tz) ∨ (∃ k g a, aold s i = some k ∧ r = some g ∧ hc h' 9 g (jO 6 [.ref a, .ref (ta k)]) ∧ IsKey h' a k ∧ CC K b h' c y (aout s i k) C G ta D tz ∧ CF b hE tz (33 + 10 * p) h' tz))) jNo := by
  obtain ⟨P, eP, S, A, hG⟩ := S
  refine (q_oldest F S A hi (rm.mono (by omega))).weaken (fun r h' z => ?_) (fun _ _ _ z => z)
  obtain ⟨r, rfl, z⟩ := z
  refine ⟨r, rfl, ?_⟩
  rcases z with ⟨z1, z2, z3, z4⟩ | ⟨k, g, a, z1, z2, z3, z4, z5, z6⟩
  · exact Or.inl ⟨z1, z2, ⟨P, eP, z3, A, hG⟩, z4.mono (by omega)⟩
  · have hk := (aold_some z1).1
    rw [wS_out hk, bS_out hk hi] at z5
    exact Or.inr ⟨k, g, a, z1, z2, z3, z4, ⟨P, eP, z5, A.out hi, hG⟩, z6.mono (by omega)⟩
/-- a key's attributes are in their bounds -/
def aok (s : AS) (i k : Nat) : Prop := k < 400 ∧ (1 ≤ s.2.2 0 k ∧ s.2.2 0 k ≤ 9) ∧ s.2.2 1 k ≤ 99 ∧ s.2.2 2 k ≤ 99 ∧ s.2.2 3 k ≤ 9 ∧ s.2.2 4 k ≤ 1 ∧ (3 ≤ i → s.2.2 4 k = 0)
theorem k_adds {K : JK} {l : Launch} {hE : JIH} {b c : Nat} {y : CY} {s : AS} {C : Nat → Nat} {G : List Nat} {ta : Nat → Nat} {D : List Nat} {tz : Nat}  (F : JF K) (S : CC K b hE c y s C G ta D tz) {i k a tA : Nat} (hi : aq i) (g : IsKey hE a k) (hkD : k ∈ D) (htA : ta k = tA) (hkq : ∀ j, aq j → k ∉ s.1 j) (ho : aok s i k) (rm : RM hE tz 14) :
    Ct K l yX2_adds wX2_adds 7 [.ref (y.1 i), .ref a, .ref tA] hE (jRv (fun h' => ∃ tz', CC K b h' c y (ain s i k) C G ta D tz' ∧ CF b hE tz 14 h' tz')) jNo := by
  subst htA
  obtain ⟨P, eP, S, A, hG⟩ := S
  refine (q_adds F S hi g hkD hkq rm).weaken (fun r h' z => ?_) (fun _ _ _ z => z)
  obtain ⟨rfl, tz', z1, z2⟩ := z
  rw [wS_in, bS_in _ _ hi] at z1
  exact ⟨rfl, tz', ⟨P, eP, z1, A.ins hi hkq ho, hG⟩, z2⟩
theorem k_loses {K : JK} {l : Launch} {hE : JIH} {b c : Nat} {y : CY} {s : AS} {C : Nat → Nat} {G : List Nat} {ta : Nat → Nat} {D : List Nat} {tz : Nat}  (F : JF K) (S : CC K b hE c y s C G ta D tz) {i k a : Nat} (hi : aq i) (g : IsKey hE a k) :
    Ct K l yX2_loses wX2_loses 5 [.ref (y.1 i), .ref a] hE (jRa (fun r h' => (k ∉ s.1 i ∧ r = none ∧ hE = h') ∨ (k ∈ s.1 i ∧ r = some (ta k) ∧ CC K b h' c y (aout s i k) C G ta D tz ∧ CF b hE tz 0 h' tz))) jNo := by
  obtain ⟨P, eP, S, A, hG⟩ := S
  refine (q_loses F S hi g).weaken (fun r h' z => ?_) (fun _ _ _ z => z)
  obtain ⟨r, rfl, z⟩ := z
  refine ⟨r, rfl, ?_⟩
  rcases z with ⟨z1, z2, z3⟩ | ⟨z1, z2, z3, z4⟩
  · exact Or.inl ⟨z1, z2, z3⟩
  · rw [wS_out z1, bS_out z1 hi] at z3
    exact Or.inr ⟨z1, z2, ⟨P, eP, z3, A.out hi, hG⟩, z4⟩
section
variable {K : JK} {l : Launch} {hE : JIH} {b c : Nat} {y : CY} {s : AS} {C : Nat → Nat} {G : List Nat} {ta : Nat → Nat} {D : List Nat} {tz : Nat} 
theorem CC.o (S : CC K b hE c y s C G ta D tz) : hc hE (b + 6) c (jO 1 (caO C y (bS s))) := by
  obtain ⟨P, eP, S, A, hG⟩ := S
  exact S.o
theorem CC.q (S : CC K b hE c y s C G ta D tz) {i : Nat} (hi : aq i) : hc hE (b + 6) (y.1 i) (jO 2 [.ref (y.2.1 i), .int (wS s i), .ref c]) := by
  obtain ⟨P, eP, S, A, hG⟩ := S
  exact S.q hi
theorem CC.th (S : CC K b hE c y s C G ta D tz) {k : Nat} (hk : k ∈ D) : hc hE (b + 5) (ta k) (jO 7 (thO s k)) := by
  obtain ⟨P, eP, S, A, hG⟩ := S
  exact S.th hk
theorem CC.dm (S : CC K b hE c y s C G ta D tz) {i k : Nat} (hi : aq i) (hk : k ∈ s.1 i) : k ∈ D := by
  obtain ⟨P, eP, S, A, hG⟩ := S
  exact S.dm hi hk
theorem CC.aw (S : CC K b hE c y s C G ta D tz) : AW s := by
  obtain ⟨P, eP, S, A, hG⟩ := S
  exact A
theorem CC.bb (S : CC K b hE c y s C G ta D tz) : b = 16 ∨ b = 32 := by
  obtain ⟨P, eP, S, A, hG⟩ := S
  exact S.bb
theorem CC.gl (S : CC K b hE c y s C G ta D tz) : G.length ≤ 20 := by
  obtain ⟨P, eP, S, A, hG⟩ := S
  exact hG
theorem CC.rm8 {cc : Nat} (S : CC K b hE c y s C G ta D tz) (r : RM hE tz cc) : hres hE + cc + 17000 ≤ jRL := by
  obtain ⟨P, eP, S, A, hG⟩ := S
  exact S.rm8 r
theorem CC.lm (S : CC K b hE c y s C G ta D tz) {i : Nat} (hi : aq i) : ∃ (ea ka : Nat → Nat) (n : Nat) (mc : Int32), LM K (b + i) hE (y.2.1 i) (s.1 i) ea ka ta n mc := by
  obtain ⟨P, eP, S, A, hG⟩ := S
  exact S.lm hi
theorem CC.mp (S : CC K b hE c y s C G ta D tz) {i : Nat} (hi : aq i) : ∃ fs, hc hE (b + i) (y.2.1 i) (jO 12 fs) := by
  obtain ⟨P, eP, S, A, hG⟩ := S
  exact S.mp hi
/-- the cache's own numbers are written -/
theorem CC.wo (S : CC K b hE c y s C G ta D tz) (C' : Nat → Nat) : CC K b (hset hE c (jO 1 (caO C' y (bS s)))) c y s C' G ta D tz := by
  obtain ⟨P, eP, S, A, hG⟩ := S
  exact ⟨P, eP, S.wo C' _, A, hG⟩
theorem CC.woF (S : CC K b hE c y s C G ta D tz) (C' : Nat → Nat) : CF b hE tz 0 (hset hE c (jO 1 (caO C' y (bS s)))) tz := by
  have e : hres (hset hE c (jO 1 (caO C' y (bS s)))) = hres hE := by refine hres_setS S.o ?_; rfl
  exact ⟨fr_b6 (Fr.set S.o rfl), by omega⟩
theorem CC.cf0 (b : Nat) {h h' : JIH} (tz : Nat) (f : FV b h h') (e : hres h' = hres h) : CF b h tz 0 h' tz := ⟨f, by omega⟩
end
def awhere (s : AS) (k : Nat) : Nat := if k ∈ s.1 1 then 1 else if k ∈ s.1 2 then 2 else if k ∈ s.1 3 then 3 else if k ∈ s.1 4 then 4 else 0
theorem k_queue {K : JK} {l : Launch} {hE : JIH} {b c : Nat} {y : CY} {s : AS} {C : Nat → Nat} {G : List Nat} {ta : Nat → Nat} {D : List Nat} {tz : Nat}  (F : JF K) (S : CC K b hE c y s C G ta D tz) {i : Nat} (hi : aq i) :
    Ct K l yX1_queue wX1_queue 0 [.ref c, .int (nI i)] hE (jRa (fun r h' => r = some (y.1 i) ∧ hE = h')) jNo := by
  obtain ⟨h1, h4⟩ := hi
  refine st_X1_queue (ls := [some (.ref c), some (.int (nI i))]) F rfl (body := fun M X => ?_)
  refine J.iload1 X dX1_queue_0 ?_
  rcases (show i = 1 ∨ i = 2 ∨ i = 3 ∨ i = 4 by omega) with rfl | rfl | rfl | rfl
  · skip
    refine J.tsIn (off := 27) (tgt := 28) X dX1_queue_1 (by decide) (by decide) (by decide) (by decide) ?_
    refine J.aload0 X dX1_queue_28 ?_
    refine J.getf X dX1_queue_29 fl_X1_29_X1 (S.o.1) rfl ?_
    refine J.areturnO X dX1_queue_32 (jRa.ofR ?_)
    exact ⟨rfl, rfl⟩
  · skip
    refine J.tsIn (off := 32) (tgt := 33) X dX1_queue_1 (by decide) (by decide) (by decide) (by decide) ?_
    refine J.aload0 X dX1_queue_33 ?_
    refine J.getf X dX1_queue_34 fl_X1_33_X1 (S.o.1) rfl ?_
    refine J.areturnO X dX1_queue_37 (jRa.ofR ?_)
    exact ⟨rfl, rfl⟩
  · skip
    refine J.tsIn (off := 37) (tgt := 38) X dX1_queue_1 (by decide) (by decide) (by decide) (by decide) ?_
    refine J.aload0 X dX1_queue_38 ?_
    refine J.getf X dX1_queue_39 fl_X1_36_X1 (S.o.1) rfl ?_
    refine J.areturnO X dX1_queue_42 (jRa.ofR ?_)
    exact ⟨rfl, rfl⟩
  · refine J.tsOut (tgt := 43) X dX1_queue_1 (by decide) (by decide) ?_
    refine J.aload0 X dX1_queue_43 ?_
    refine J.getf X dX1_queue_44 fl_X1_39_X1 (S.o.1) rfl ?_
    refine J.areturnO X dX1_queue_47 (jRa.ofR ?_)
    exact ⟨rfl, rfl⟩
theorem k_has {K : JK} {l : Launch} {hE : JIH} {b c : Nat} {y : CY} {s : AS} {C : Nat → Nat} {G : List Nat} {ta : Nat → Nat} {D : List Nat} {tz : Nat}  (F : JF K) (S : CC K b hE c y s C G ta D tz) {i k a : Nat} (hi : aq i) (g : IsKey hE a k) : Ct K l yJ1_containsKey wJ1_containsKey 3 [.ref (y.2.1 i), .ref a] hE (jRi (fun r h' => r = jB (k ∈ s.1 i) ∧ hE = h')) jNo := by
  obtain ⟨ea, ka, n, mc, L⟩ := S.lm hi
  exact c_has F L g
theorem k_where {K : JK} {l : Launch} {hE : JIH} {b c : Nat} {y : CY} {s : AS} {C : Nat → Nat} {G : List Nat} {ta : Nat → Nat} {D : List Nat} {tz : Nat}  (F : JF K) (S : CC K b hE c y s C G ta D tz) {k a : Nat} (g : IsKey hE a k) :
    Ct K l yX1_where wX1_where 4 [.ref c, .ref a] hE (jRi (fun r h' => r = nI (awhere s k) ∧ hE = h')) jNo := by
  refine st_X1_where (ls := [some (.ref c), some (.ref a), none]) F rfl (body := fun M X => ?_)
  have stp : ∀ i, aq i → (k ∉ s.1 i → J M hE 2 [some (.ref c), some (.ref a), some (.int (nI (i + 1)))] []) → (k ∈ s.1 i → awhere s k = i) → J M hE 2 [some (.ref c), some (.ref a), some (.int (nI i))] [] := by
    intro i hi nxt hw
    obtain ⟨h1, h4⟩ := id hi
    obtain ⟨fs, ob⟩ := S.mp hi
    refine J.iload2 X dX1_where_2 ?_
    refine J.iconst (v := nI 4) X dX1_where_3 (by decide) ?_
    refine J.icmp_gtN (tgt := 30) X dX1_where_4 (by decide) (by omega) (by omega) (fun q9 => absurd q9 (by omega)) (fun _ => ?_)
    refine J.aload0 X dX1_where_7 ?_
    refine J.iload2 X dX1_where_8 ?_
    refine J.callVa X dX1_where_9 lk_X1_97_X1 ce_X1_queue (k_queue F S hi) (by decide) rfl (S.o.1) rfl (fun r h' e _ => ?_)
    obtain ⟨rfl, rfl⟩ := e
    refine J.getf X dX1_where_12 fl_X1_101_X2 ((S.q hi).1) rfl ?_
    refine J.aload1 X dX1_where_15 ?_
    refine J.callUi X dX1_where_16 lk_X1_105_J2 ce_J1_containsKey (k_has F S hi g) (by decide) rfl (ob.1) rfl (fun r h' e _ => ?_)
    obtain ⟨rfl, rfl⟩ := e
    refine J.if_eqB (tgt := 24) X dX1_where_19 (by decide) (fun c1 => ?_) (fun c1 => ?_)
    · skip
      refine J.iinc2N (d := 1) X dX1_where_24 (by decide) ?_
      refine J.goto (tgt := 2) X dX1_where_27 (by decide) ?_
      exact nxt c1
    · skip
      refine J.iload2 X dX1_where_22 ?_
      refine J.zreturn X dX1_where_23 (rfl) (jRi.of ?_)
      exact ⟨by rw [hw c1], rfl⟩
  refine J.iconst (v := nI 1) X dX1_where_0 (by decide) ?_
  refine J.istore2 X dX1_where_1 ?_
  unfold awhere at *
  refine stp 1 aq1 (fun n1 => stp 2 aq2 (fun n2 => stp 3 aq3 (fun n3 => stp 4 aq4 (fun n4 => ?_) (fun e => ?_)) (fun e => ?_)) (fun e => ?_)) (fun e => ?_)
  · skip
    refine J.iload2 X dX1_where_2 ?_
    refine J.iconst (v := nI 4) X dX1_where_3 (by decide) ?_
    refine J.icmp_gtN (tgt := 30) X dX1_where_4 (by decide) (by omega) (by omega) (fun _ => ?_) (fun q9 => absurd q9 (by omega))
    refine J.iconst (v := nI 0) X dX1_where_30 (by decide) ?_
    refine J.zreturn X dX1_where_31 (rfl) (jRi.of ?_)
    refine ⟨?_, rfl⟩
    rw [if_neg n1, if_neg n2, if_neg n3, if_neg n4]
  · rw [if_neg n1, if_neg n2, if_neg n3, if_pos e]
  · rw [if_neg n1, if_neg n2, if_pos e]
  · rw [if_neg n1, if_pos e]
  · rw [if_pos e]
theorem k_goes {K : JK} {l : Launch} {hE : JIH} {b c : Nat} {y : CY} {s : AS} {C : Nat → Nat} {G : List Nat} {ta : Nat → Nat} {D : List Nat} {tz : Nat}  (F : JF K) (S : CC K b hE c y s C G ta D tz) {i k a : Nat} (hi : aq i) (g : IsKey hE a k) (hkD : k ∈ D) (hkq : ∀ j, aq j → k ∉ s.1 j) (hw : 1 ≤ s.2.2 0 k ∧ s.2.2 0 k ≤ 9) (rm : RM hE tz 72) :
    Ct K l yX1_goes wX1_goes 8 [.ref c, .ref a, .ref (ta k), .ref (y.1 i)] hE (jRv (fun h' => ∃ ta' D' tz', CC K b h' c y (ain (aghost s k) i k) (va_up C 9 (C 9 + 1)) ((k :: G).take 20) ta' D' tz' ∧ CF b hE tz 72 h' tz')) jNo := by
  have r8 := S.rm8 rm
  have hb := S.bb
  refine st_X1_goes (ls := [some (.ref c), some (.ref a), some (.ref (ta k)), some (.ref (y.1 i))]) F rfl (body := fun M X => ?_)
  refine J.aload3 X dX1_goes_0 ?_
  refine J.aload1 X dX1_goes_1 ?_
  refine J.new (ci := 7) (b + 5) X dX1_goes_2 jcl_7 cl_X1_111 rfl ((by show _ + (8 + 6) ≤ _; omega)) ?_
  have f1 := Fr.push (fun x => x = 6) hE (b + 5) (jO 7 [.int 0, .int 0, .int 0, .int 0, .int 0, .int 0])
  have ct := (S.th hkD).fr f1 (by omega)
  refine J.dup X dX1_goes_5 ?_
  refine J.aload2 X dX1_goes_6 ?_
  refine J.getf X dX1_goes_7 fl_X1_113_X7 (ct.1) rfl ?_
  refine J.callI X dX1_goes_10 lk_X1_116 ce_X7_init (th_init1 F (hget_push_new _ _ _) (nI (s.2.2 0 k))) (by decide) rfl (fun h1 e _ => ?_)
  subst e
  rw [hset_push_new]
  clear f1 ct
  have e0 : ([.int (nI 0), .int (nI (s.2.2 0 k)), .int (nI 0), .int 0, .int (nI 0), .int 0] : List Value) = thO (aghost s k) k := by
    unfold thO
    rw [aghost_2, aghost_2, aghost_2, aghost_2, aghost_2, show (aghost s k).2.1 k = 0 from va_up_self _ _ _]
    simp
    decide
  show J M (hpush hE (b + 5) (jO 7 [.int (nI 0), .int (nI (s.2.2 0 k)), .int (nI 0), .int 0, .int (nI 0), .int 0])) _ _ _
  rw [e0]
  have f1 := Fr.push (fun x => x = 6) hE (b + 5) (jO 7 (thO (aghost s k) k))
  have e1 : hres (hpush hE (b + 5) (jO 7 (thO (aghost s k) k))) = hres hE + 14 := hres_push hE (b + 5) (jO 7 (thO (aghost s k) k))
  have cn := hc.new hE (b + 5) (jO 7 (thO (aghost s k) k))
  have hlt : ∀ j ∈ D, ta j ≠ hnew hE := fun j hj => Nat.ne_of_lt (S.th hj).lt
  replace S := S.fr f1 (b6 hb) (by decide)
  replace g := g.fr f1 (by decide)
  have F1 : CF b hE tz 14 (hpush hE (b + 5) (jO 7 (thO (aghost s k) k))) tz := ⟨fr_6 f1, by omega⟩
  generalize hpush hE (b + 5) (jO 7 (thO (aghost s k) k)) = h1 at cn S g F1
  generalize hnew hE = tA at cn hlt
  obtain ⟨P, eP, R, A, hG⟩ := S
  have hkq2 : ∀ j, aq j → k ∉ (aghost s k).1 j := hkq
  have A2 : AW (aghost s k) := A.att hkq (fun j m hm => by rw [show (if j = 0 then s.2.2 0 else va_up (s.2.2 j) k 0) m = (aghost s k).2.2 j m from rfl, aghost_2, if_neg (fun z => hm z.2)])
  have S2 : CC K b h1 c y (aghost s k) C G (va_up ta k tA) (k :: D) tz := ⟨P, eP, R.nt hkq rfl (fun j hj => va_up_ne _ _ hj) (fun i j hj => by rw [aghost_2, if_neg (fun z => hj z.2)]) cn hlt, A2, hG⟩
  have ho : aok (aghost s k) i k := by
    unfold aok
    simp only [aghost_2]
    exact ⟨g.1, hw, by simp, by simp, by simp, by simp, by simp⟩
  refine J.callVv X dX1_goes_13 lk_X1_119_X2 ce_X2_adds (k_adds F S2 hi g List.mem_cons_self (va_up_self _ _ _) hkq2 ho (F1.rm rm (by omega))) (by decide) rfl ((S2.q hi).1) rfl (fun h2 e _ => ?_)
  obtain ⟨tz2, S3, F2⟩ := e
  replace g := g.fr F2.1.1 (CT.n1 hb)
  clear R A hG eP S2
  obtain ⟨P, eP, R, A, hG⟩ := S3
  obtain ⟨gfs, gob⟩ := R.gd
  have hPl : P.length ≤ 20 := by rw [← eP, List.length_map] at hG; exact hG
  refine J.aload0 X dX1_goes_16 ?_
  refine J.getf X dX1_goes_17 fl_X1_45_X1 (R.o.1) rfl ?_
  refine J.aload1 X dX1_goes_20 ?_
  refine J.callVv X dX1_goes_21 lk_X1_123_J4 ce_J4_addFirst (dq_addFirst F R.dq g hPl (by omega) (by have := R.rm8 ((F1.tr F2).rm rm (c2 := 44) (by omega)); omega)) (by decide) rfl (gob.1) rfl (fun h3 e _ => ?_)
  obtain ⟨Q3, f3, e3⟩ := e
  have R3 := R.dk f3 Q3
  have F3 : CF b h2 tz2 44 h3 tz2 := ⟨fr_b7 f3, by omega⟩
  obtain ⟨gfs, gob⟩ := R3.gd
  refine J.aload0 X dX1_goes_24 ?_
  refine J.getf X dX1_goes_25 fl_X1_45_X1 (R3.o.1) rfl ?_
  refine J.callVi X dX1_goes_28 lk_X1_126_J4 ce_J4_size (dq_size F Q3) (by decide) rfl (gob.1) rfl (fun r h' e _ => ?_)
  obtain ⟨rfl, rfl⟩ := e
  -- the count
  have fin : ∀ (h : JIH) (P' : List (Nat × Nat)), P'.map Prod.snd = (k :: G).take 20 → CR K b h c y (ain (aghost s k) i k) C P' (wS (ain (aghost s k) i k)) (bS (ain (aghost s k) i k)) (va_up ta k tA) (k :: D) tz2 → CF b h3 tz2 0 h tz2 → J M h 44 [some (.ref c), some (.ref a), some (.ref (ta k)), some (.ref (y.1 i))] [] := by
    intro h P' eP' R F4
    refine J.aload0 X dX1_goes_44 ?_
    refine J.dup X dX1_goes_45 ?_
    refine J.getf X dX1_goes_46 fl_X1_64_X1 (R.o.1) rfl ?_
    refine J.iconst (v := nI 1) X dX1_goes_49 (by decide) ?_
    refine J.iaddN X dX1_goes_50 ?_
    refine J.putf X dX1_goes_51 (pl_X1_64_X1 _) (R.o.1) (Nat.le_of_ble_eq_true rfl) (rfl) (rfl) ?_
    refine J.vreturn X dX1_goes_54 (jRv.of ?_)
    have S5 : CC K b h c y (ain (aghost s k) i k) C ((k :: G).take 20) (va_up ta k tA) (k :: D) tz2 := ⟨P', eP', R, A, by rw [List.length_take]; omega⟩
    have FF := ((F1.tr F2).tr F3).tr (F4.tr (S5.woF (va_up C 9 (C 9 + 1))))
    exact ⟨_, _, tz2, S5.wo (va_up C 9 (C 9 + 1)), FF.mono (Nat.le_refl _)⟩
  have hPl2 : ((a, k) :: P).length ≤ 21 := by rw [List.length_cons]; omega
  refine J.bipush (v := nI 20) X dX1_goes_31 (by decide) ?_
  refine J.icmp_leN (tgt := 44) X dX1_goes_33 (by decide) (by omega) (by omega) (fun c1 => ?_) (fun c1 => ?_)
  · skip
    refine fin _ _ ?_ R3 (CF.rf _ _ _)
    rw [List.take_of_length_le]
    · rw [List.map_cons, eP]
    · rw [List.length_cons, ← eP, List.length_map]
      rw [List.length_cons] at c1
      exact c1
  · skip
    refine J.aload0 X dX1_goes_36 ?_
    refine J.getf X dX1_goes_37 fl_X1_45_X1 (R3.o.1) rfl ?_
    refine J.callVa X dX1_goes_40 lk_X1_130_J4 ce_J4_pollLast (dq_pollLast F Q3 (by simp) (by omega)) (by decide) rfl (gob.1) rfl (fun r h4 e _ => ?_)
    obtain ⟨Q4, f4, e4⟩ := e
    refine J.pop X dX1_goes_43 ?_
    refine fin _ _ ?_ (R3.dk f4 Q4) ⟨fr_b7 f4, by omega⟩
    rw [List.length_cons] at c1
    rw [List.map_dropLast, List.map_cons, eP, List.dropLast_eq_take, List.length_cons, show G.length = 20 by rw [← eP, List.length_map]; omega]
