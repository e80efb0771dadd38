/-! Tape.has; the Reader -/
def ghas (qv : Option (Nat × Nat × (Nat → Int64))) (i : Int32) (w : Option Int32) : Prop := (qv = none ∧ w = some (-11)) ∨ ∃ so n v, qv = some (so, n, v) ∧ ((¬ (nI 0 ≤ i ∧ i ≤ nI n - nI 1) ∧ w = some (-13)) ∨ ((nI 0 ≤ i ∧ i ≤ nI n - nI 1) ∧ w = none))
theorem tp_has {K : JK} {l : Launch} {hE : JIH} (F : JF K) (hl : l.stackTraces = false) {q tg : Nat} {r : Option Nat} {qv : Option (Nat × Nat × (Nat → Int64))} (ct : hget hE q = some (jO 4 [va_rf r])) (hv : GV K hE tg r qv) {i : Int32} {w : Option Int32} (hf : ghas qv i w) (rm : hres hE + 15 ≤ jRL) :
    Ct K l yX4_has wX4_has 11 [.ref q, .int i] hE (jRv (fun h' => w = none ∧ hE = h')) (fun x E h' => E = RX11 ∧ ∃ pl fs, w = some pl ∧ x = hnew hE ∧ fs.length = 7 ∧ fs[6]? = some (.int pl) ∧ hpush hE 9 (jO 11 fs) = h') := by
  refine st_X4_has (ls := [some (.ref q), some (.int i)]) F rfl (body := fun M X => ?_)
  refine J.aload0 X dX4_has_0 ?_
  refine J.getf X dX4_has_1 fl_X4_9_X4 (ct) rfl ?_
  cases r with
  | none =>
    have hw : w = some (-11) := by
      rcases hf with ⟨-, e⟩ | ⟨so, n, v, e, -⟩
      · exact e
      · rw [show qv = none from hv] at e; cases e
    subst hw
    refine J.ifnonnullN (a := 0) (tgt := 17) X dX4_has_4 (by decide) ?_
    refine J.off (n := -11) 9 X hl dX4_has_7 dX4_has_10 cl_X4_25 (JArg.bipush X dX4_has_11 (by decide)) dX4_has_13 lk_X4_27 (by decide) rm (fun fs f1 f2 => ?_)
    refine J.athrow X dX4_has_16 jcl_11 (hget_push_new _ _ _) ?_
    exact JT.out X (fun z hz => by cases hz) ⟨rfl, _, fs, rfl, rfl, f1, f2, rfl⟩
  | some a =>
    rcases hf with ⟨e, -⟩ | ⟨so, n, v, e, hf⟩
    · obtain ⟨_, _, _, e', -⟩ := hv
      rw [e] at e'; cases e'
    subst e
    refine J.ifnonnullR (tgt := 17) X dX4_has_4 (by decide) ?_
    refine J.iload1 X dX4_has_17 ?_
    refine J.iconst (v := nI 0) X dX4_has_18 (by decide) ?_
    refine J.aload0 X dX4_has_19 ?_
    refine J.callVi X dX4_has_20 lk_X4_30_X4 ce_X4_size (tp_size F ct hv) (by decide) rfl (ct) rfl (fun r0 h2 e _ => ?_)
    obtain ⟨rfl, rfl⟩ := e
    refine J.iconst (v := nI 1) X dX4_has_23 (by decide) ?_
    refine J.isub X dX4_has_24 ?_
    refine J.callSNi X dX4_has_25 lk_X4_34 ce_X0_in (x_in F i (nI 0) (nI n - nI 1)) (by decide) rfl (fun r0 h2 e _ => ?_)
    obtain ⟨rfl, rfl⟩ := e
    rcases hf with ⟨q, rfl⟩ | ⟨q, rfl⟩
    · skip
      refine J.if_neB (tgt := 41) X dX4_has_28 (by decide) (fun q9 => absurd q9 (q)) (fun _ => ?_)
      refine J.off (n := -13) 9 X hl dX4_has_31 dX4_has_34 cl_X4_25 (JArg.bipush X dX4_has_35 (by decide)) dX4_has_37 lk_X4_27 (by decide) rm (fun fs f1 f2 => ?_)
      refine J.athrow X dX4_has_40 jcl_11 (hget_push_new _ _ _) ?_
      exact JT.out X (fun z hz => by cases hz) ⟨rfl, _, fs, rfl, rfl, f1, f2, rfl⟩
    refine J.if_neB (tgt := 41) X dX4_has_28 (by decide) (fun _ => ?_) (fun q9 => absurd q9 (fun z => z q))
    refine J.vreturn X dX4_has_41 (jRv.of ?_)
    exact ⟨rfl, rfl⟩
/-! what the Reader reads: an error's place, or a value and where it goes on -/
abbrev RR (α : Type) : Type := Nat ⊕ (α × Nat)
def rbind {α β : Type} (x : RR α) (f : α → Nat → RR β) : RR β := match x with
  | .inl e => .inl e
  | .inr (a, i) => f a i
def rNx (t : List Nat) (lo hi i : Nat) : RR Nat := match t[i]? with
  | some c => if lo ≤ c ∧ c ≤ hi then .inr (c - lo, i + 1) else .inl i
  | none => .inl i
def rKey (t : List Nat) (i : Nat) : RR Nat := rbind (rNx t 97 100 i) fun s i1 => rbind (rNx t 48 57 i1) fun d i2 => match rNx t 48 57 i2 with
  | .inr (e, i3) => .inr (100 * s + (10 * d + e), i3)
  | .inl _ => .inr (100 * s + d, i2)
def rCl (t : List Nat) (i : Nat) : RR Cl := if t[i]? = some 103 then rbind (rKey t (i + 1)) (fun k j => .inr ((103, k, 0), j)) else if t[i]? = some 120 then rbind (rKey t (i + 1)) (fun k j => .inr ((120, k, 0), j)) else
  if t[i]? = some 112 then rbind (rKey t (i + 1)) (fun k j => rbind (rNx t 61 61 j) fun _ j2 => rbind (rNx t 49 57 j2) fun w j3 => .inr ((112, k, w + 1), j3)) else .inl i
def rLp (t : List Nat) : Nat → Nat → List Cl → RR (List Cl)
  | 0, i, _ => .inl i
  | f + 1, i, cl => if cl.length < 20 ∧ t[i]? = some 59 then rbind (rCl t (i + 1)) (fun c j => rLp t f j (cl ++ [c])) else if i < t.length then .inl i else .inr (cl, i)
def rAll (t : List Nat) : RR (List Cl) := rbind (rCl t 0) fun c j => rLp t 20 j [c]
theorem rNx_t {t : List Nat} {lo hi i c : Nat} (h : t[i]? = some c) (h1 : lo ≤ c) (h2 : c ≤ hi) : rNx t lo hi i = .inr (c - lo, i + 1) := by
  unfold rNx; rw [h]; exact if_pos ⟨h1, h2⟩
theorem rNx_f {t : List Nat} {lo hi i : Nat} (h : ∀ c, t[i]? = some c → ¬ (lo ≤ c ∧ c ≤ hi)) : rNx t lo hi i = .inl i := by
  unfold rNx
  cases e : t[i]? with
  | none => rfl
  | some c => exact if_neg (h c e)
theorem rNx_b {t : List Nat} {lo hi i v j : Nat} (h : rNx t lo hi i = .inr (v, j)) : v ≤ hi - lo ∧ j = i + 1 ∧ i < t.length := by
  by_cases q : ∃ c, t[i]? = some c ∧ (lo ≤ c ∧ c ≤ hi)
  · obtain ⟨c, e, h1, h2⟩ := q
    rw [rNx_t e h1 h2] at h
    cases h
    exact ⟨by omega, rfl, (List.getElem?_eq_some_iff.mp e).1⟩
  · rw [rNx_f (fun c e z => q ⟨c, e, z⟩)] at h
    cases h
theorem rin_iff {o : Option Nat} {lo hi : Nat} (hlo : lo ≤ 127) (hhi : hi ≤ 127) (ho : ∀ c, o = some c → c < 128) : (nI lo ≤ bI o ∧ bI o ≤ nI hi) ↔ ∃ c, o = some c ∧ lo ≤ c ∧ c ≤ hi := by
  cases o with
  | none => exact ⟨fun z => absurd (Int32.lt_of_le_of_lt z.1 (show bI none < 0 by decide)) (nI_pos (by omega)), fun ⟨_, z, _⟩ => by cases z⟩
  | some c =>
    have hc := ho c rfl
    exact ⟨fun z => ⟨c, rfl, (nI_leI (by omega) (by omega)).mp z.1, (nI_leI (by omega) (by omega)).mp z.2⟩, fun ⟨d, e, z1, z2⟩ => by cases e; exact ⟨(nI_leI (by omega) (by omega)).mpr z1, (nI_leI (by omega) (by omega)).mpr z2⟩⟩
theorem Fr.setN {T : Nat → Prop} {h h1 : JIH} {a : Nat} (e : va_E) (f : Fr T h h1) (ha : hnew h ≤ a) : Fr T h (hset h1 a e) :=
  ⟨(hset_1 _ _ _).trans f.1, by rw [hnew_set]; exact f.2.1, fun b hb => (htag_set _ _ _ _).trans (f.2.2.1 b hb), fun b hb ht => (hget_set_ne _ (by omega)).trans (f.2.2.2 b hb ht)⟩
def rdO (tx n i l : Nat) : va_E := jO 9 [.ref tx, .int (nI n), .int (nI i), .ref l]
/-- an Off that leaves -/
def rdX (T : Nat → Prop) (h : JIH) (P : Nat → Prop) (c : Nat) : JQX := fun x E h' => E = RX11 ∧ ∃ pl fs, P pl ∧ hc h' 9 x (jO 11 fs) ∧ fs[6]? = some (.int (nI pl)) ∧ Fr T h h' ∧ hres h' ≤ hres h + c
theorem rdX.up {T T' : Nat → Prop} {h h1 : JIH} {P P' : Nat → Prop} {c c' : Nat} {x : Nat} {E : String} {h' : JIH} (q : rdX T h1 P c x E h') (f : Fr T' h h1) (hT : ∀ z, T z → T' z) (hP : ∀ pl, P pl → P' pl) (hc' : hres h1 + c ≤ hres h + c') : rdX T' h P' c' x E h' := by
  obtain ⟨e, pl, fs, a1, a2, a3, a4, a5⟩ := q
  exact ⟨e, pl, fs, hP pl a1, a2, a3, f.tr (a4.mono hT), by omega⟩
theorem rd_here {K : JK} {l : Launch} {hE : JIH} (F : JF K) {q tx i ll : Nat} {t : List Nat} (c : hc hE 9 q (rdO tx t.length i ll)) (g : GT K hE tx t) (hi : i ≤ 100) :
    Ct K l yX9_here wX9_here 0 [.ref q] hE (jRi (fun r h' => r = bI t[i]? ∧ hE = h')) jNo := by
  obtain ⟨f, ca, hf, h100⟩ := g
  refine st_X9_here (ls := [some (.ref q)]) F rfl (body := fun M X => ?_)
  refine J.aload0 X dX9_here_0 ?_
  refine J.getf X dX9_here_1 fl_X9_26_X9 (c.1) rfl ?_
  refine J.aload0 X dX9_here_4 ?_
  refine J.getf X dX9_here_5 fl_X9_22_X9 (c.1) rfl ?_
  refine J.icmp_geN (tgt := 23) X dX9_here_8 (by decide) (by omega) (by omega) (fun c1 => ?_) (fun c1 => ?_)
  · skip
    refine J.iconst (v := -1) X dX9_here_23 (by decide) ?_
    refine J.zreturn X dX9_here_24 (rfl) (jRi.of ?_)
    exact ⟨by rw [List.getElem?_eq_none c1]; rfl, rfl⟩
  · skip
    have hlt : i < t.length := by omega
    have hv : t[i]? = some t[i] := List.getElem?_eq_getElem hlt
    refine J.aload0 X dX9_here_11 ?_
    refine J.getf X dX9_here_12 fl_X9_18_X9 (c.1) rfl ?_
    refine J.aload0 X dX9_here_15 ?_
    refine J.getf X dX9_here_16 fl_X9_26_X9 (c.1) rfl ?_
    refine J.bald X dX9_here_19 ca.1 rfl (by omega) ?_
    rw [(hf i _ hv).1]
    refine J.goto (tgt := 24) X dX9_here_20 (by decide) ?_
    refine J.zreturn X dX9_here_24 (rfl) (jRi.of ?_)
    exact ⟨by rw [hv]; rfl, rfl⟩
theorem rd_next {K : JK} {l : Launch} {hE : JIH} (F : JF K) (hl : l.stackTraces = false) {q tx i ll lo hi : Nat} {t : List Nat} (c : hc hE 9 q (rdO tx t.length i ll)) (g : GT K hE tx t) (hi100 : i ≤ 100) (hlo : lo ≤ 127) (hhi : hi ≤ 127) (rm : hres hE + 15 ≤ jRL) :
    Ct K l yX9_next wX9_next 11 [.ref q, .int (nI lo), .int (nI hi)] hE (jRi (fun r h' => ∃ v j, rNx t lo hi i = .inr (v, j) ∧ r = nI v ∧ hc h' 9 q (rdO tx t.length j ll) ∧ Fr (fun z => z = 9) hE h' ∧ hres h' = hres hE)) (rdX (fun z => z = 9) hE (fun pl => rNx t lo hi i = .inl pl) 15) := by
  have g0 := g
  obtain ⟨f, ca, hf, h100⟩ := g
  refine st_X9_next (ls := [some (.ref q), some (.int (nI lo)), some (.int (nI hi))]) F rfl (body := fun M X => ?_)
  refine J.aload0 X dX9_next_0 ?_
  refine J.callVi X dX9_next_1 lk_X9_29_X9 ce_X9_here (rd_here F c g0 hi100) (by decide) rfl (c.1) rfl (fun r h2 e _ => ?_)
  obtain ⟨rfl, rfl⟩ := e
  refine J.iload1 X dX9_next_4 ?_
  refine J.iload2 X dX9_next_5 ?_
  refine J.callSNi X dX9_next_6 lk_X9_33 ce_X0_in (x_in F (bI t[i]?) (nI lo) (nI hi)) (by decide) rfl (fun r h2 e _ => ?_)
  obtain ⟨rfl, rfl⟩ := e
  have hiff := rin_iff (o := t[i]?) hlo hhi (fun c e => (hf i c e).2)
  refine J.if_neB (tgt := 24) X dX9_next_9 (by decide) (fun c1 => ?_) (fun c1 => ?_)
  · skip
    obtain ⟨v, hv, l1, l2⟩ := hiff.mp c1
    have hlt := (List.getElem?_eq_some_iff.mp hv).1
    have hne : q ≠ tx := c.apT ca (by decide)
    refine J.aload0 X dX9_next_24 ?_
    refine J.getf X dX9_next_25 fl_X9_18_X9 (c.1) rfl ?_
    refine J.aload0 X dX9_next_28 ?_
    refine J.dup X dX9_next_29 ?_
    refine J.getf X dX9_next_30 fl_X9_26_X9 (c.1) rfl ?_
    refine J.dup_x1 X dX9_next_33 ?_
    refine J.iconst (v := nI 1) X dX9_next_34 (by decide) ?_
    refine J.iaddN X dX9_next_35 ?_
    refine J.putf X dX9_next_36 (pl_X9_26_X9 _) c.1 (Nat.le_of_ble_eq_true rfl) rfl rfl ?_
    have c2 := c.same (rdO tx t.length (i + 1) ll)
    have ca2 := ca.ne (rdO tx t.length (i + 1) ll) hne
    have f1 : Fr (fun z => z = 9) hE (hset hE q (rdO tx t.length (i + 1) ll)) := Fr.set c rfl
    have r1 : hres (hset hE q (rdO tx t.length (i + 1) ll)) = hres hE := by refine hres_setS c ?_; rfl
    show J M (hset hE q (rdO tx t.length (i + 1) ll)) _ _ _
    refine J.bald X dX9_next_39 ca2.1 rfl (by omega) ?_
    rw [(hf i v hv).1]
    refine J.iload1 X dX9_next_40 ?_
    refine J.isubN X dX9_next_41 (l1) ?_
    refine J.zreturn X dX9_next_42 (rfl) (jRi.of ?_)
    exact ⟨v - lo, i + 1, rNx_t hv l1 l2, rfl, c2, f1, r1⟩
  · skip
    have e : rNx t lo hi i = .inl i := rNx_f (fun c hc z => c1 (hiff.mpr ⟨c, hc, z.1, z.2⟩))
    refine J.off (n := nI i) 9 X hl dX9_next_12 dX9_next_15 cl_X9_37 (JArg.fld X dX9_next_16 dX9_next_17 fl_X9_26_X9 (hget_push _ _ c.1) rfl) dX9_next_20 lk_X9_39 (by decide) rm (fun fs f1 f2 => ?_)
    refine J.athrow X dX9_next_23 jcl_11 (hget_push_new _ _ _) ?_
    exact JT.out X (fun z hz => by cases hz) ⟨rfl, i, fs, e, hc.new _ _ _, f2, Fr.push _ _ _ _, by rw [hres_push]; show _ + (8 + fs.length) ≤ _; omega⟩
theorem rd_key {K : JK} {l : Launch} {hE : JIH} (F : JF K) (hl : l.stackTraces = false) {q tx i ll : Nat} {t : List Nat} (c : hc hE 9 q (rdO tx t.length i ll)) (g : GT K hE tx t) (hi100 : i ≤ t.length) (rm : hres hE + 25 ≤ jRL) :
    Ct K l yX9_key wX9_key 12 [.ref q] hE (jRa (fun r h' => ∃ k j a, rKey t i = .inr (k, j) ∧ r = some a ∧ IsKey h' a k ∧ hc h' 9 q (rdO tx t.length j ll) ∧ j ≤ t.length ∧ Fr (fun z => z = 9) hE h' ∧ hres h' = hres hE + 10)) (rdX (fun z => z = 9) hE (fun pl => rKey t i = .inl pl) 15) := by
  have h100 : t.length ≤ 100 := by obtain ⟨f, ca, hf, h⟩ := g; exact h
  refine st_X9_key (ls := [some (.ref q), none, none]) F rfl (body := fun M X => ?_)
  refine J.aload0 X dX9_key_0 ?_
  refine J.bipush (v := nI 97) X dX9_key_1 (by decide) ?_
  refine J.bipush (v := nI 100) X dX9_key_3 (by decide) ?_
  refine J.callViX X dX9_key_5 lk_X9_42_X9 ce_X9_next (rd_next F hl c g (by omega) (lo := 97) (hi := 100) (by decide) (by decide) (by omega)) (by decide) rfl (c.1) rfl (fun r h1 z _ => ?_) (fun x E h1 z _ => ?_)
  rotate_left
  · skip
    exact JT.out X (fun z hz => by cases hz) (z.up (Fr.rf _ _) (fun _ z => z) (fun pl e => by unfold rKey; rw [e]; rfl) (by omega))
  obtain ⟨s, i1, e1, rfl, c1, f1, r1⟩ := z
  obtain ⟨b1, rfl, d1⟩ := rNx_b e1
  have g1 := g.fr f1 (by decide)
  refine J.istore1 X dX9_key_8 ?_
  refine J.aload0 X dX9_key_9 ?_
  refine J.bipush (v := nI 48) X dX9_key_10 (by decide) ?_
  refine J.bipush (v := nI 57) X dX9_key_12 (by decide) ?_
  refine J.callViX X dX9_key_14 lk_X9_42_X9 ce_X9_next (rd_next F hl c1 g1 (by omega) (lo := 48) (hi := 57) (by decide) (by decide) (by omega)) (by decide) rfl (c1.1) rfl (fun r h2 z _ => ?_) (fun x E h2 z _ => ?_)
  rotate_left
  · exact JT.out X (fun z hz => by cases hz) (z.up f1 (fun _ z => z) (fun pl e => by unfold rKey; rw [e1]; show rbind (rNx t 48 57 (i + 1)) _ = _; rw [e]; rfl) (by omega))
  obtain ⟨d, i2, e2, rfl, c2, f2, r2⟩ := z
  obtain ⟨b2, rfl, d2⟩ := rNx_b e2
  have g2 := g1.fr f2 (by decide)
  have hf0 : ∀ c, t[i + 1 + 1]? = some c → c < 128 := by obtain ⟨f, ca, hf, h⟩ := g; exact fun c e => (hf _ c e).2
  have f12 := f1.tr f2
  refine J.istore2 X dX9_key_17 ?_
  refine J.aload0 X dX9_key_18 ?_
  refine J.callVi X dX9_key_19 lk_X9_29_X9 ce_X9_here (rd_here F c2 g2 (by omega)) (by decide) rfl (c2.1) rfl (fun r h3 e _ => ?_)
  obtain ⟨rfl, rfl⟩ := e
  refine J.bipush (v := nI 48) X dX9_key_22 (by decide) ?_
  refine J.bipush (v := nI 57) X dX9_key_24 (by decide) ?_
  refine J.callSNi X dX9_key_26 lk_X9_33 ce_X0_in (x_in F (bI t[i + 1 + 1]?) (nI 48) (nI 57)) (by decide) rfl (fun r h3 e _ => ?_)
  obtain ⟨rfl, rfl⟩ := e
  have hiff := rin_iff (o := t[i + 1 + 1]?) (lo := 48) (hi := 57) (by decide) (by decide) hf0
  have eK : rKey t i = (match rNx t 48 57 (i + 1 + 1) with
      | .inr (e, i3) => .inr (100 * s + (10 * d + e), i3)
      | .inl _ => .inr (100 * s + d, i + 1 + 1)) := by
    unfold rKey
    rw [e1]
    show rbind (rNx t 48 57 (i + 1)) _ = _
    rw [e2]
    rfl
  have fin : ∀ (n j : Nat) (h4 : JIH), n ≤ 99 → rKey t i = .inr (100 * s + n, j) → hc h4 9 q (rdO tx t.length j ll) → j ≤ t.length → Fr (fun z => z = 9) hE h4 → hres h4 = hres hE → J M h4 46 [some (.ref q), some (.int (nI s)), some (.int (nI n))] [] := by
    intro n j h4 hn eR c4 hj f4 r4
    refine J.new (ci := 8) (1) X dX9_key_46 jcl_8 cl_X9_46 rfl ((by show _ + (8 + 2) ≤ _; omega)) ?_
    refine J.dup X dX9_key_49 ?_
    refine J.iload1 X dX9_key_50 ?_
    refine J.iload2 X dX9_key_51 ?_
    refine J.callI X dX9_key_52 lk_X9_48 ce_X8_init (ky_init F (hget_push_new _ _ _) (nI s) (nI n)) (by decide) rfl (fun h5 e _ => ?_)
    subst e
    rw [hset_push_new]
    refine J.areturnO X dX9_key_55 (jRa.ofR ?_)
    have gk : IsKey (hpush h4 1 (kyO s n)) (hnew h4) (100 * s + n) := IsKey.of (by omega) hn (hc.new _ _ _)
    exact ⟨100 * s + n, j, hnew h4, eR, rfl, gk, c4.push _ _, hj, f4.tr (Fr.push _ _ _ _), by rw [hres_push, r4]; rfl⟩
  refine J.if_eqB (tgt := 46) X dX9_key_29 (by decide) (fun c3 => ?_) (fun c3 => ?_)
  · skip
    have e3 : rNx t 48 57 (i + 1 + 1) = .inl (i + 1 + 1) := rNx_f (fun c hc z => c3 (hiff.mpr ⟨c, hc, z.1, z.2⟩))
    rw [e3] at eK
    exact fin d (i + 1 + 1) h2 (by omega) eK c2 (by omega) f12 (by omega)
  · skip
    obtain ⟨v, hv, l1, l2⟩ := hiff.mp c3
    have e3 := rNx_t (lo := 48) (hi := 57) hv l1 l2
    refine J.bipush (v := nI 10) X dX9_key_32 (by decide) ?_
    refine J.iload2 X dX9_key_34 ?_
    refine J.imulN X dX9_key_35 ?_
    refine J.aload0 X dX9_key_36 ?_
    refine J.bipush (v := nI 48) X dX9_key_37 (by decide) ?_
    refine J.bipush (v := nI 57) X dX9_key_39 (by decide) ?_
    refine J.callViX X dX9_key_41 lk_X9_42_X9 ce_X9_next (rd_next F hl c2 g2 (by omega) (lo := 48) (hi := 57) (by decide) (by decide) (by omega)) (by decide) rfl (c2.1) rfl (fun r h3 z _ => ?_) (fun x E h3 z _ => ?_)
    rotate_left
    · obtain ⟨-, pl, fs, e4, -⟩ := z
      rw [e3] at e4; cases e4
    obtain ⟨w, i3, e4, rfl, c4, f4, r4⟩ := z
    rw [e3] at e4
    cases e4
    rw [e3] at eK
    have hlt := (List.getElem?_eq_some_iff.mp hv).1
    refine J.iaddN X dX9_key_44 ?_
    refine J.istore2 X dX9_key_45 ?_
    exact fin (10 * d + (v - 48)) (i + 1 + 1 + 1) h3 (by omega) eK c4 (by omega) (f12.tr f4) (by omega)
