/-! frames by tags -/
/-- a cell with its tag -/
def hc (h : JIH) (t a : Nat) (e : va_E) : Prop := hget h a = some e ∧ htag h a = t
/-- nothing changes but cells with tags in T, and new cells -/
def Fr (T : Nat → Prop) (h h' : JIH) : Prop := h'.1 = h.1 ∧ hnew h ≤ hnew h' ∧ (∀ a, a < hnew h → htag h' a = htag h a) ∧ (∀ a, a < hnew h → ¬ T (htag h a) → hget h' a = hget h a)
theorem Fr.rf (T : Nat → Prop) (h : JIH) : Fr T h h := ⟨rfl, Nat.le_refl _, fun _ _ => rfl, fun _ _ _ => rfl⟩
theorem Fr.tr {T : Nat → Prop} {a b c : JIH} (f : Fr T a b) (g : Fr T b c) : Fr T a c :=
  ⟨g.1.trans f.1, Nat.le_trans f.2.1 g.2.1, fun x hx => (g.2.2.1 x (Nat.lt_of_lt_of_le hx f.2.1)).trans (f.2.2.1 x hx), fun x hx ht => (g.2.2.2 x (Nat.lt_of_lt_of_le hx f.2.1) (by rw [f.2.2.1 x hx]; exact ht)).trans (f.2.2.2 x hx ht)⟩
theorem Fr.mono {T T' : Nat → Prop} {a b : JIH} (f : Fr T a b) (h : ∀ t, T t → T' t) : Fr T' a b := ⟨f.1, f.2.1, f.2.2.1, fun x hx ht => f.2.2.2 x hx (fun z => ht (h _ z))⟩
theorem Fr.set {T : Nat → Prop} {h : JIH} {a t : Nat} {e0 e : va_E} (g : hc h t a e0) (ht : T t) : Fr T h (hset h a e) :=
  ⟨hset_1 _ _ _, by rw [hnew_set]; exact Nat.le_refl _, fun x _ => htag_set _ _ _ x, fun x _ hn => hget_set_ne e (fun z => hn (by rw [← z, g.2]; exact ht))⟩
theorem Fr.push (T : Nat → Prop) (h : JIH) (t : Nat) (e : va_E) : Fr T h (hpush h t e) :=
  ⟨rfl, by rw [hnew_push]; exact Nat.le_succ _, fun x hx => htag_push_ne t e (Nat.ne_of_lt hx), fun x hx _ => hget_push_ne t e (Nat.ne_of_lt hx)⟩
theorem hc.lt {h : JIH} {t a : Nat} {e : va_E} (g : hc h t a e) : a < hnew h := hget_lt g.1
theorem hc.fr {T : Nat → Prop} {h h' : JIH} {t a : Nat} {e : va_E} (g : hc h t a e) (f : Fr T h h') (ht : ¬ T t) : hc h' t a e :=
  ⟨(f.2.2.2 a g.lt (by rw [g.2]; exact ht)).trans g.1, (f.2.2.1 a g.lt).trans g.2⟩
theorem hc.same {h : JIH} {t a : Nat} {e0 : va_E} (g : hc h t a e0) (e : va_E) : hc (hset h a e) t a e := ⟨hget_set_same e g.1, (htag_set h a e a).trans g.2⟩
theorem hc.ne {h : JIH} {t a b : Nat} {e : va_E} (g : hc h t b e) (e1 : va_E) (n : a ≠ b) : hc (hset h a e1) t b e := ⟨(hget_set_ne e1 n).trans g.1, (htag_set h a e1 b).trans g.2⟩
theorem hc.push {h : JIH} {t a : Nat} {e : va_E} (g : hc h t a e) (t1 : Nat) (e1 : va_E) : hc (hpush h t1 e1) t a e := ⟨hget_push t1 e1 g.1, (htag_push_ne t1 e1 (hget_ne_new g.1)).trans g.2⟩
theorem hc.new (h : JIH) (t : Nat) (e : va_E) : hc (hpush h t e) t (hnew h) e := ⟨hget_push_new h t e, htag_push_new h t e⟩
/-- two cells of different tags lie apart -/
theorem hc.apT {h : JIH} {t t' a b : Nat} {e e' : va_E} (g : hc h t a e) (g' : hc h t' b e') (n : t ≠ t') : a ≠ b := fun z => n (g.2.symm.trans ((by rw [z]) : htag h a = htag h b) |>.trans g'.2)
/-- two cells of different contents lie apart -/
theorem hc.apE {h : JIH} {t t' a b : Nat} {e e' : va_E} (g : hc h t a e) (g' : hc h t' b e') (n : e ≠ e') : a ≠ b := fun z => n (Option.some.inj (g.1.symm.trans ((by rw [z] : hget h a = hget h b).trans g'.1)))
theorem hres_setS {h : JIH} {t a : Nat} {e0 e : va_E} (g : hc h t a e0) (hz : esz e = esz e0) : hres (hset h a e) = hres h := hres_set g.1 hz
theorem jO_ne {ci cj : Nat} {fs gs : List Value} (h : ci ≠ cj) : jO ci fs ≠ jO cj gs := fun z => h (congrArg Prod.fst (Sum.inr.inj z))
theorem jO_inj {ci cj : Nat} {fs gs : List Value} (h : jO ci fs = jO cj gs) : ci = cj ∧ fs = gs := ⟨congrArg Prod.fst (Sum.inr.inj h), congrArg Prod.snd (Sum.inr.inj h)⟩
/-! keys -/
def hsh (k : Nat) : Nat := k + k / 100
theorem hsh_lt {k : Nat} (h : k < 400) : hsh k < 403 := by unfold hsh; omega
theorem hsh_inj {k j : Nat} (h : hsh k = hsh j) : k = j := by
  unfold hsh at h
  rcases Nat.lt_trichotomy k j with c | c | c
  · have := Nat.div_le_div_right (c := 100) (Nat.le_of_lt c); omega
  · exact c
  · have := Nat.div_le_div_right (c := 100) (Nat.le_of_lt c); omega
/-- a key lies at a (tag 1: keys never change) -/
def IsKey (h : JIH) (a k : Nat) : Prop := k < 400 ∧ hc h 1 a (kyO (k / 100) (k % 100))
theorem IsKey.fr {T : Nat → Prop} {h h' : JIH} {a k : Nat} (g : IsKey h a k) (f : Fr T h h') (ht : ¬ T 1) : IsKey h' a k := ⟨g.1, g.2.fr f ht⟩
theorem IsKey.of {h : JIH} {a s n : Nat} (hs : s ≤ 3) (hn : n ≤ 99) (g : hc h 1 a (kyO s n)) : IsKey h a (100 * s + n) := by
  refine ⟨by omega, ?_⟩
  rw [show (100 * s + n) / 100 = s by omega, show (100 * s + n) % 100 = n by omega]
  exact g
theorem nI_inj {a b : Nat} (ha : a < 2147483648) (hb : b < 2147483648) (h : nI a = nI b) : a = b := by
  have := congrArg Int32.toInt h
  rw [nI_toInt ha, nI_toInt hb] at this
  omega
theorem IsKey.inj {h : JIH} {a k j : Nat} (g : IsKey h a k) (g' : IsKey h a j) : k = j := by
  have h1 := Option.some.inj (g.2.1.symm.trans g'.2.1)
  have h2 := (jO_inj h1).2
  injection h2 with h3 h4
  injection h4 with h5 h6
  injection h3 with h3
  injection h5 with h5
  have e1 := nI_inj (by have := g.1; omega) (by have := g'.1; omega) h3
  have e2 := nI_inj (by have := g.1; omega) (by have := g'.1; omega) h5
  omega
theorem nar_rf (r : Option Nat) (C : String) : narrow (.object C) (va_rf r) = va_rf r := by cases r <;> rfl
theorem fit_rf (r : Option Nat) (C : String) : fits (.object C) (va_rf r) = true := by cases r <;> rfl
theorem nar_rA (r : Option Nat) (C : FieldType) : narrow (.array C) (va_rf r) = va_rf r := by cases r <;> rfl
theorem fit_rA (r : Option Nat) (C : FieldType) : fits (.array C) (va_rf r) = true := by cases r <;> rfl
theorem nI_and (a b : Nat) : nI a &&& nI b = nI (a &&& b) := by
  unfold nI
  apply Int32.toBitVec_inj.mp
  show BitVec.ofNat 32 a &&& BitVec.ofNat 32 b = BitVec.ofNat 32 (a &&& b)
  exact (BitVec.ofNat_and).symm
/-- the place of a hash in a table of 2^p -/
theorem nI_mod (a p : Nat) : nI a &&& nI (2 ^ p - 1) = nI (a % 2 ^ p) := by rw [nI_and, Nat.and_two_pow_sub_one_eq_mod]
theorem nI_mod' (a p : Nat) : nI (2 ^ p - 1) &&& nI a = nI (a % 2 ^ p) := by rw [nI_and, Nat.and_comm, Nat.and_two_pow_sub_one_eq_mod]
theorem xush {x : Nat} (h : x < 65536) : nI x ^^^ ((nI x).toUInt32 >>> ((nI 16).toUInt32 &&& Int32.toUInt32 31)).toInt32 = nI x := by
  apply Int32.toBitVec_inj.mp
  show BitVec.ofNat 32 x ^^^ ((BitVec.ofNat 32 x) >>> ((BitVec.ofNat 32 16 &&& BitVec.ofNat 32 31) % 32#32)) = BitVec.ofNat 32 x
  have : (BitVec.ofNat 32 x) >>> ((BitVec.ofNat 32 16 &&& BitVec.ofNat 32 31) % 32#32) = 0#32 := by
    apply BitVec.eq_of_toNat_eq
    show (BitVec.ofNat 32 x).toNat >>> 16 = 0
    rw [BitVec.toNat_ofNat, Nat.mod_eq_of_lt (by omega), Nat.shiftRight_eq_div_pow]
    omega
  rw [this, BitVec.xor_zero]
section JR
variable {M : JM} {K : JK} {l0 : Launch} {cc : ByteArray} {own : String} {nL : Nat} {ret : Option FieldType} {nm : String} {hh : List (Nat × Nat × Nat × Nat)} {lv : Nat} {h0 : JIH} {QR : JQR} {QX : JQX} {h : JIH} {pc : Nat} {ls : List (Option Value)} {st : List Value}
theorem J.iushr {x y : Int32} (X : JX M K l0 cc own nL ret nm hh lv h0 QR QX) (hd : decode cc pc = .ok (.iushr, 1)) (k : J M h (pc + 1) ls (.int ((x.toUInt32 >>> (y.toUInt32 &&& Int32.toUInt32 31)).toInt32) :: st)) : J M h pc ls (.int y :: .int x :: st) := by
  obtain ⟨K1, h1, R1, X1, p, l, e, R, s, m, args, below, meth, c⟩ := M
  obtain ⟨⟨rfl, rfl, rfl, rfl, rfl⟩, hx, hb, hml, hown, hr, hlk, hts, F, hW, hR, hs0, hb0, hnm, htab⟩ := X
  intro H locs la hH hlo hla hg
  exact lv_iushr hx hb hd rfl (k H locs la hH hlo hla hg)
/-- what the walk stands on holds at every later heap: its cells fit the room -/
theorem J.res {P : Prop} (hp : hres h ≤ jRL → J M h pc ls st) : J M h pc ls st := by
  obtain ⟨K1, h1, R1, X1, p, l, e, R, s, m, args, below, meth, c⟩ := M
  intro H locs la hH hlo hla hg
  exact hp hH.2.2.2.2 H locs la hH hlo hla hg
end JR
/-! what isn't castable -/
theorem nc_tree {K : JK} (F : JF K) : va_Nc "java/util/LinkedHashMap$Entry" "java/util/HashMap$TreeNode" K.2.2 := by
  obtain ⟨-, a0, -, h, -⟩ := F
  rw [Cond.before_and, Bool.and_eq_true] at h
  replace h := h.2
  unfold narrow_1 at h
  rw [Cond.before_and, Bool.and_eq_true] at h
  replace h := h.1
  rw [Cond.before_and, Bool.and_eq_true] at h
  replace h := h.1
  unfold narrow_1_1 at h
  rw [Cond.before_and, Bool.and_eq_true] at h
  replace h := h.2
  rw [Cond.before_and, Bool.and_eq_true] at h
  replace h := h.2
  rw [Cond.before_and, Bool.and_eq_true] at h
  replace h := h.1
  rw [Cond.before_and, Bool.and_eq_true] at h
  replace h := h.2
  rw [Cond.before_and, Bool.and_eq_true] at h
  replace h := h.1
  rw [Cond.before_and, Bool.and_eq_true] at h
  replace h := h.1
  rw [Cond.before_and, Bool.and_eq_true] at h
  replace h := h.2
  rw [Cond.before_and, Bool.and_eq_true] at h
  replace h := h.2
  rw [Cond.before_and, Bool.and_eq_true] at h
  replace h := h.2
  exact va_Nc.of h
