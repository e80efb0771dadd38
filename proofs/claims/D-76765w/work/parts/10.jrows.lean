/-! the rows of the J layer -/
def jref (v : Value) : Bool := match v with
  | .null => true
  | .ref _ => true
  | _ => false
theorem jref_rf (r : Option Nat) : jref (va_rf r) = true := by cases r <;> rfl
def jcat (x : Option Value) : Bool := match x with
  | none => true
  | some v => v.category == 1
theorem jcat_rf (r : Option Nat) : jcat (some (va_rf r)) = true := by cases r <;> rfl
theorem jcat_ne {x : Option Value} {v : Value} (h : jcat x = true) (e : x = some v) : (v.category == 2) = false := by
  subst e
  have h : (v.category == 1) = true := h
  have h : v.category = 1 := by simpa using h
  rw [h]; rfl
theorem jref_cat {v : Value} (h : jref v = true) : v.category = 1 := by cases v <;> first | rfl | cases h
def jlv (ls : List (Option Value)) : List (Nat × Value) := (List.range ls.length).filterMap fun i => (ls[i]?.join).map fun v => (i, v)
theorem jlv_mem {ls : List (Option Value)} {i : Nat} {v : Value} : (i, v) ∈ jlv ls ↔ ls[i]? = some (some v) := by
  unfold jlv
  rw [List.mem_filterMap]
  constructor
  · rintro ⟨j, hj, e⟩
    cases h1 : ls[j]? with
    | none => rw [h1] at e; cases e
    | some x =>
      rw [h1] at e
      cases x with
      | none => cases e
      | some w =>
        have e : (j, w) = (i, v) := Option.some.inj e
        cases e
        exact h1
  · intro h
    refine ⟨i, List.mem_range.mpr (List.getElem?_eq_some_iff.mp h).1, ?_⟩
    rw [h]; rfl
theorem jl.has {la : Array Slot} {ls : List (Option Value)} (h : jl la ls) : lv_has la ls.length (jlv ls) := ⟨h.1, h.2.1, fun q hq => h.2.2 q.1 q.2 (jlv_mem.mp hq)⟩
theorem jl.st1 {la' : Array Slot} {ls : List (Option Value)} {i : Nat} {v : Value} (ls' : List (Option Value)) (hlen : ls'.length = ls.length) (h' : lv_has la' ls.length ((i, v) :: (jlv ls).filter (fun q => !(q.1 == i) && !(q.1 + 1 == i && q.2.category == 2))))
    (hk : ∀ (j : Nat) (w : Value), ls'[j]? = some (some w) → (j = i ∧ w = v) ∨ (j ≠ i ∧ ls[j]? = some (some w) ∧ (j + 1 = i → (w.category == 2) = false))) : jl la' ls' := by
  refine ⟨by rw [h'.1, hlen], h'.2.1, fun j w hj => ?_⟩
  rcases hk j w hj with ⟨rfl, rfl⟩ | ⟨h1, h2, h3⟩
  · exact h'.2.2 _ List.mem_cons_self
  · refine h'.2.2 (j, w) (List.mem_cons_of_mem _ (List.mem_filter.mpr ⟨jlv_mem.mpr h2, ?_⟩))
    show (!(j == i) && !(j + 1 == i && w.category == 2)) = true
    by_cases hji : j + 1 = i
    · rw [h3 hji]; simp [h1]
    · simp [h1, hji]
theorem jl.st2 {la' : Array Slot} {ls : List (Option Value)} {i : Nat} {v : Value} (ls' : List (Option Value)) (hlen : ls'.length = ls.length) (h' : lv_has la' ls.length ((i, v) :: (jlv ls).filter (fun q => !(q.1 == i) && (!(q.1 == i + 1) && !(q.1 + 1 == i && q.2.category == 2)))))
    (hk : ∀ (j : Nat) (w : Value), ls'[j]? = some (some w) → (j = i ∧ w = v) ∨ (j ≠ i ∧ j ≠ i + 1 ∧ ls[j]? = some (some w) ∧ (j + 1 = i → (w.category == 2) = false))) : jl la' ls' := by
  refine ⟨by rw [h'.1, hlen], h'.2.1, fun j w hj => ?_⟩
  rcases hk j w hj with ⟨rfl, rfl⟩ | ⟨h1, h4, h2, h3⟩
  · exact h'.2.2 _ List.mem_cons_self
  · refine h'.2.2 (j, w) (List.mem_cons_of_mem _ (List.mem_filter.mpr ⟨jlv_mem.mpr h2, ?_⟩))
    show (!(j == i) && (!(j == i + 1) && !(j + 1 == i && w.category == 2))) = true
    by_cases hji : j + 1 = i
    · rw [h3 hji]; simp [h1, h4]
    · simp [h1, h4, hji]
section JR
variable {M : JM} {K : JK} {l0 : Launch} {cc : ByteArray} {own : String} {nL : Nat} {ret : Option FieldType} {nm : String} {hh : List (Nat × Nat × Nat × Nat)} {lv : Nat} {h0 : JIH} {QR : JQR} {QX : JQX} {h : JIH} {pc : Nat} {ls : List (Option Value)} {st : List Value}
theorem J.iconst {n : Int} {v : Int32} (X : JX M K l0 cc own nL ret nm hh lv h0 QR QX) (hd : decode cc pc = .ok (.iconst n, 1)) (hv : Int32.ofInt n = v) (k : J M h (pc + 1) ls (.int v :: st))  : J M h pc ls (st) := by
  obtain ⟨K1, h1, R1, X1, p, l, e, R, s, m, args, below, meth, c⟩ := M
  obtain ⟨⟨rfl, rfl, rfl, rfl, rfl⟩, hx, hb, hml, hown, hr, hlk, hts, F, hW, hR, hs0, hb0, hnm, htab⟩ := X
  intro H locs la hH hlo hla hg
  exact lv_iconst hx hb hd hv (k H locs la hH hlo hla hg)
theorem J.bipush {n : Int} {v : Int32} (X : JX M K l0 cc own nL ret nm hh lv h0 QR QX) (hd : decode cc pc = .ok (.bipush n, 2)) (hv : (Int8.ofInt n).toInt32 = v) (k : J M h (pc + 2) ls (.int v :: st))  : J M h pc ls (st) := by
  obtain ⟨K1, h1, R1, X1, p, l, e, R, s, m, args, below, meth, c⟩ := M
  obtain ⟨⟨rfl, rfl, rfl, rfl, rfl⟩, hx, hb, hml, hown, hr, hlk, hts, F, hW, hR, hs0, hb0, hnm, htab⟩ := X
  intro H locs la hH hlo hla hg
  exact lv_bipush hx hb hd hv (k H locs la hH hlo hla hg)
theorem J.sipush {n : Int} {v : Int32} (X : JX M K l0 cc own nL ret nm hh lv h0 QR QX) (hd : decode cc pc = .ok (.sipush n, 3)) (hv : (Int16.ofInt n).toInt32 = v) (k : J M h (pc + 3) ls (.int v :: st))  : J M h pc ls (st) := by
  obtain ⟨K1, h1, R1, X1, p, l, e, R, s, m, args, below, meth, c⟩ := M
  obtain ⟨⟨rfl, rfl, rfl, rfl, rfl⟩, hx, hb, hml, hown, hr, hlk, hts, F, hW, hR, hs0, hb0, hnm, htab⟩ := X
  intro H locs la hH hlo hla hg
  exact lv_sipush hx hb hd hv (k H locs la hH hlo hla hg)
theorem J.lconst {n : Fin 2} {v : Int64} (X : JX M K l0 cc own nL ret nm hh lv h0 QR QX) (hd : decode cc pc = .ok (.lconst n, 1)) (hv : Int64.ofNat (n : Nat) = v) (k : J M h (pc + 1) ls (.long v :: st))  : J M h pc ls (st) := by
  obtain ⟨K1, h1, R1, X1, p, l, e, R, s, m, args, below, meth, c⟩ := M
  obtain ⟨⟨rfl, rfl, rfl, rfl, rfl⟩, hx, hb, hml, hown, hr, hlk, hts, F, hW, hR, hs0, hb0, hnm, htab⟩ := X
  intro H locs la hH hlo hla hg
  exact lv_lconst hx hb hd hv (k H locs la hH hlo hla hg)
theorem J.iadd {x y : Int32} (X : JX M K l0 cc own nL ret nm hh lv h0 QR QX) (hd : decode cc pc = .ok (.iadd, 1))  (k : J M h (pc + 1) ls (.int (x + y) :: st))  : J M h pc ls (.int y :: .int x :: st) := by
  obtain ⟨K1, h1, R1, X1, p, l, e, R, s, m, args, below, meth, c⟩ := M
  obtain ⟨⟨rfl, rfl, rfl, rfl, rfl⟩, hx, hb, hml, hown, hr, hlk, hts, F, hW, hR, hs0, hb0, hnm, htab⟩ := X
  intro H locs la hH hlo hla hg
  exact lv_iadd hx hb hd  (k H locs la hH hlo hla hg)
theorem J.isub {x y : Int32} (X : JX M K l0 cc own nL ret nm hh lv h0 QR QX) (hd : decode cc pc = .ok (.isub, 1))  (k : J M h (pc + 1) ls (.int (x - y) :: st))  : J M h pc ls (.int y :: .int x :: st) := by
  obtain ⟨K1, h1, R1, X1, p, l, e, R, s, m, args, below, meth, c⟩ := M
  obtain ⟨⟨rfl, rfl, rfl, rfl, rfl⟩, hx, hb, hml, hown, hr, hlk, hts, F, hW, hR, hs0, hb0, hnm, htab⟩ := X
  intro H locs la hH hlo hla hg
  exact lv_isub hx hb hd  (k H locs la hH hlo hla hg)
theorem J.imul {x y : Int32} (X : JX M K l0 cc own nL ret nm hh lv h0 QR QX) (hd : decode cc pc = .ok (.imul, 1))  (k : J M h (pc + 1) ls (.int (x * y) :: st))  : J M h pc ls (.int y :: .int x :: st) := by
  obtain ⟨K1, h1, R1, X1, p, l, e, R, s, m, args, below, meth, c⟩ := M
  obtain ⟨⟨rfl, rfl, rfl, rfl, rfl⟩, hx, hb, hml, hown, hr, hlk, hts, F, hW, hR, hs0, hb0, hnm, htab⟩ := X
  intro H locs la hH hlo hla hg
  exact lv_imul hx hb hd  (k H locs la hH hlo hla hg)
theorem J.iand {x y : Int32} (X : JX M K l0 cc own nL ret nm hh lv h0 QR QX) (hd : decode cc pc = .ok (.iand, 1))  (k : J M h (pc + 1) ls (.int (x &&& y) :: st))  : J M h pc ls (.int y :: .int x :: st) := by
  obtain ⟨K1, h1, R1, X1, p, l, e, R, s, m, args, below, meth, c⟩ := M
  obtain ⟨⟨rfl, rfl, rfl, rfl, rfl⟩, hx, hb, hml, hown, hr, hlk, hts, F, hW, hR, hs0, hb0, hnm, htab⟩ := X
  intro H locs la hH hlo hla hg
  exact lv_iand hx hb hd  (k H locs la hH hlo hla hg)
theorem J.ixor {x y : Int32} (X : JX M K l0 cc own nL ret nm hh lv h0 QR QX) (hd : decode cc pc = .ok (.ixor, 1))  (k : J M h (pc + 1) ls (.int (x ^^^ y) :: st))  : J M h pc ls (.int y :: .int x :: st) := by
  obtain ⟨K1, h1, R1, X1, p, l, e, R, s, m, args, below, meth, c⟩ := M
  obtain ⟨⟨rfl, rfl, rfl, rfl, rfl⟩, hx, hb, hml, hown, hr, hlk, hts, F, hW, hR, hs0, hb0, hnm, htab⟩ := X
  intro H locs la hH hlo hla hg
  exact lv_ixor hx hb hd  (k H locs la hH hlo hla hg)
theorem J.ior {x y : Int32} (X : JX M K l0 cc own nL ret nm hh lv h0 QR QX) (hd : decode cc pc = .ok (.ior, 1))  (k : J M h (pc + 1) ls (.int (x ||| y) :: st))  : J M h pc ls (.int y :: .int x :: st) := by
  obtain ⟨K1, h1, R1, X1, p, l, e, R, s, m, args, below, meth, c⟩ := M
  obtain ⟨⟨rfl, rfl, rfl, rfl, rfl⟩, hx, hb, hml, hown, hr, hlk, hts, F, hW, hR, hs0, hb0, hnm, htab⟩ := X
  intro H locs la hH hlo hla hg
  exact lv_ior hx hb hd  (k H locs la hH hlo hla hg)
theorem J.idiv {x y : Int32} (X : JX M K l0 cc own nL ret nm hh lv h0 QR QX) (hd : decode cc pc = .ok (.idiv, 1)) (hne : ¬ y = 0) (k : J M h (pc + 1) ls (.int (x / y) :: st))  : J M h pc ls (.int y :: .int x :: st) := by
  obtain ⟨K1, h1, R1, X1, p, l, e, R, s, m, args, below, meth, c⟩ := M
  obtain ⟨⟨rfl, rfl, rfl, rfl, rfl⟩, hx, hb, hml, hown, hr, hlk, hts, F, hW, hR, hs0, hb0, hnm, htab⟩ := X
  intro H locs la hH hlo hla hg
  exact lv_idiv hx hb hd hne (k H locs la hH hlo hla hg)
theorem J.irem {x y : Int32} (X : JX M K l0 cc own nL ret nm hh lv h0 QR QX) (hd : decode cc pc = .ok (.irem, 1)) (hne : ¬ y = 0) (k : J M h (pc + 1) ls (.int (x - x / y * y) :: st))  : J M h pc ls (.int y :: .int x :: st) := by
  obtain ⟨K1, h1, R1, X1, p, l, e, R, s, m, args, below, meth, c⟩ := M
  obtain ⟨⟨rfl, rfl, rfl, rfl, rfl⟩, hx, hb, hml, hown, hr, hlk, hts, F, hW, hR, hs0, hb0, hnm, htab⟩ := X
  intro H locs la hH hlo hla hg
  exact lv_irem hx hb hd hne (k H locs la hH hlo hla hg)
theorem J.ineg {x : Int32} (X : JX M K l0 cc own nL ret nm hh lv h0 QR QX) (hd : decode cc pc = .ok (.ineg, 1))  (k : J M h (pc + 1) ls (.int (-x) :: st))  : J M h pc ls (.int x :: st) := by
  obtain ⟨K1, h1, R1, X1, p, l, e, R, s, m, args, below, meth, c⟩ := M
  obtain ⟨⟨rfl, rfl, rfl, rfl, rfl⟩, hx, hb, hml, hown, hr, hlk, hts, F, hW, hR, hs0, hb0, hnm, htab⟩ := X
  intro H locs la hH hlo hla hg
  exact lv_ineg hx hb hd  (k H locs la hH hlo hla hg)
theorem J.ishl {x y : Int32} (X : JX M K l0 cc own nL ret nm hh lv h0 QR QX) (hd : decode cc pc = .ok (.ishl, 1))  (k : J M h (pc + 1) ls (.int (x <<< (y &&& 31)) :: st))  : J M h pc ls (.int y :: .int x :: st) := by
  obtain ⟨K1, h1, R1, X1, p, l, e, R, s, m, args, below, meth, c⟩ := M
  obtain ⟨⟨rfl, rfl, rfl, rfl, rfl⟩, hx, hb, hml, hown, hr, hlk, hts, F, hW, hR, hs0, hb0, hnm, htab⟩ := X
  intro H locs la hH hlo hla hg
  exact lv_ishl hx hb hd  (k H locs la hH hlo hla hg)
theorem J.ishr {x y : Int32} (X : JX M K l0 cc own nL ret nm hh lv h0 QR QX) (hd : decode cc pc = .ok (.ishr, 1))  (k : J M h (pc + 1) ls (.int (x >>> (y &&& 31)) :: st))  : J M h pc ls (.int y :: .int x :: st) := by
  obtain ⟨K1, h1, R1, X1, p, l, e, R, s, m, args, below, meth, c⟩ := M
  obtain ⟨⟨rfl, rfl, rfl, rfl, rfl⟩, hx, hb, hml, hown, hr, hlk, hts, F, hW, hR, hs0, hb0, hnm, htab⟩ := X
  intro H locs la hH hlo hla hg
  exact lv_ishr hx hb hd  (k H locs la hH hlo hla hg)
theorem J.ladd {x y : Int64} (X : JX M K l0 cc own nL ret nm hh lv h0 QR QX) (hd : decode cc pc = .ok (.ladd, 1))  (k : J M h (pc + 1) ls (.long (x + y) :: st))  : J M h pc ls (.long y :: .long x :: st) := by
  obtain ⟨K1, h1, R1, X1, p, l, e, R, s, m, args, below, meth, c⟩ := M
  obtain ⟨⟨rfl, rfl, rfl, rfl, rfl⟩, hx, hb, hml, hown, hr, hlk, hts, F, hW, hR, hs0, hb0, hnm, htab⟩ := X
  intro H locs la hH hlo hla hg
  exact lv_ladd hx hb hd  (k H locs la hH hlo hla hg)
theorem J.land {x y : Int64} (X : JX M K l0 cc own nL ret nm hh lv h0 QR QX) (hd : decode cc pc = .ok (.land, 1))  (k : J M h (pc + 1) ls (.long (x &&& y) :: st))  : J M h pc ls (.long y :: .long x :: st) := by
  obtain ⟨K1, h1, R1, X1, p, l, e, R, s, m, args, below, meth, c⟩ := M
  obtain ⟨⟨rfl, rfl, rfl, rfl, rfl⟩, hx, hb, hml, hown, hr, hlk, hts, F, hW, hR, hs0, hb0, hnm, htab⟩ := X
  intro H locs la hH hlo hla hg
  exact lv_land hx hb hd  (k H locs la hH hlo hla hg)
theorem J.lor {x y : Int64} (X : JX M K l0 cc own nL ret nm hh lv h0 QR QX) (hd : decode cc pc = .ok (.lor, 1))  (k : J M h (pc + 1) ls (.long (x ||| y) :: st))  : J M h pc ls (.long y :: .long x :: st) := by
  obtain ⟨K1, h1, R1, X1, p, l, e, R, s, m, args, below, meth, c⟩ := M
  obtain ⟨⟨rfl, rfl, rfl, rfl, rfl⟩, hx, hb, hml, hown, hr, hlk, hts, F, hW, hR, hs0, hb0, hnm, htab⟩ := X
  intro H locs la hH hlo hla hg
  exact lv_lor hx hb hd  (k H locs la hH hlo hla hg)
theorem J.ldiv {x y : Int64} (X : JX M K l0 cc own nL ret nm hh lv h0 QR QX) (hd : decode cc pc = .ok (.ldiv, 1)) (hne : ¬ y = 0) (k : J M h (pc + 1) ls (.long (x / y) :: st))  : J M h pc ls (.long y :: .long x :: st) := by
  obtain ⟨K1, h1, R1, X1, p, l, e, R, s, m, args, below, meth, c⟩ := M
  obtain ⟨⟨rfl, rfl, rfl, rfl, rfl⟩, hx, hb, hml, hown, hr, hlk, hts, F, hW, hR, hs0, hb0, hnm, htab⟩ := X
  intro H locs la hH hlo hla hg
  exact lv_ldiv hx hb hd hne (k H locs la hH hlo hla hg)
theorem J.lrem {x y : Int64} (X : JX M K l0 cc own nL ret nm hh lv h0 QR QX) (hd : decode cc pc = .ok (.lrem, 1)) (hne : ¬ y = 0) (k : J M h (pc + 1) ls (.long (x - x / y * y) :: st))  : J M h pc ls (.long y :: .long x :: st) := by
  obtain ⟨K1, h1, R1, X1, p, l, e, R, s, m, args, below, meth, c⟩ := M
  obtain ⟨⟨rfl, rfl, rfl, rfl, rfl⟩, hx, hb, hml, hown, hr, hlk, hts, F, hW, hR, hs0, hb0, hnm, htab⟩ := X
  intro H locs la hH hlo hla hg
  exact lv_lrem hx hb hd hne (k H locs la hH hlo hla hg)
theorem J.i2l {x : Int32} (X : JX M K l0 cc own nL ret nm hh lv h0 QR QX) (hd : decode cc pc = .ok (.i2l, 1))  (k : J M h (pc + 1) ls (.long x.toInt64 :: st))  : J M h pc ls (.int x :: st) := by
  obtain ⟨K1, h1, R1, X1, p, l, e, R, s, m, args, below, meth, c⟩ := M
  obtain ⟨⟨rfl, rfl, rfl, rfl, rfl⟩, hx, hb, hml, hown, hr, hlk, hts, F, hW, hR, hs0, hb0, hnm, htab⟩ := X
  intro H locs la hH hlo hla hg
  exact lv_i2l hx hb hd rfl (k H locs la hH hlo hla hg)
theorem J.l2i {x : Int64} (X : JX M K l0 cc own nL ret nm hh lv h0 QR QX) (hd : decode cc pc = .ok (.l2i, 1))  (k : J M h (pc + 1) ls (.int x.toInt32 :: st))  : J M h pc ls (.long x :: st) := by
  obtain ⟨K1, h1, R1, X1, p, l, e, R, s, m, args, below, meth, c⟩ := M
  obtain ⟨⟨rfl, rfl, rfl, rfl, rfl⟩, hx, hb, hml, hown, hr, hlk, hts, F, hW, hR, hs0, hb0, hnm, htab⟩ := X
  intro H locs la hH hlo hla hg
  exact lv_l2i hx hb hd rfl (k H locs la hH hlo hla hg)
theorem J.i2b {x : Int32} (X : JX M K l0 cc own nL ret nm hh lv h0 QR QX) (hd : decode cc pc = .ok (.i2b, 1))  (k : J M h (pc + 1) ls (.int x.toInt8.toInt32 :: st))  : J M h pc ls (.int x :: st) := by
  obtain ⟨K1, h1, R1, X1, p, l, e, R, s, m, args, below, meth, c⟩ := M
  obtain ⟨⟨rfl, rfl, rfl, rfl, rfl⟩, hx, hb, hml, hown, hr, hlk, hts, F, hW, hR, hs0, hb0, hnm, htab⟩ := X
  intro H locs la hH hlo hla hg
  exact lv_i2b hx hb hd rfl (k H locs la hH hlo hla hg)
theorem J.i2s {x : Int32} (X : JX M K l0 cc own nL ret nm hh lv h0 QR QX) (hd : decode cc pc = .ok (.i2s, 1))  (k : J M h (pc + 1) ls (.int x.toInt16.toInt32 :: st))  : J M h pc ls (.int x :: st) := by
  obtain ⟨K1, h1, R1, X1, p, l, e, R, s, m, args, below, meth, c⟩ := M
  obtain ⟨⟨rfl, rfl, rfl, rfl, rfl⟩, hx, hb, hml, hown, hr, hlk, hts, F, hW, hR, hs0, hb0, hnm, htab⟩ := X
  intro H locs la hH hlo hla hg
  exact lv_i2s hx hb hd rfl (k H locs la hH hlo hla hg)
theorem J.dup {va : Value} (X : JX M K l0 cc own nL ret nm hh lv h0 QR QX) (hd : decode cc pc = .ok (.dup, 1))  (k : J M h (pc + 1) ls (va :: va :: st)) (hva : va.category = 1 := by first | rfl | exact jref_cat (jref_rf _)) : J M h pc ls (va :: st) := by
  obtain ⟨K1, h1, R1, X1, p, l, e, R, s, m, args, below, meth, c⟩ := M
  obtain ⟨⟨rfl, rfl, rfl, rfl, rfl⟩, hx, hb, hml, hown, hr, hlk, hts, F, hW, hR, hs0, hb0, hnm, htab⟩ := X
  intro H locs la hH hlo hla hg
  exact lv_dup hx hb hd hva (k H locs la hH hlo hla hg)
theorem J.pop {va : Value} (X : JX M K l0 cc own nL ret nm hh lv h0 QR QX) (hd : decode cc pc = .ok (.pop, 1))  (k : J M h (pc + 1) ls (st)) (hva : va.category = 1 := by first | rfl | exact jref_cat (jref_rf _)) : J M h pc ls (va :: st) := by
  obtain ⟨K1, h1, R1, X1, p, l, e, R, s, m, args, below, meth, c⟩ := M
  obtain ⟨⟨rfl, rfl, rfl, rfl, rfl⟩, hx, hb, hml, hown, hr, hlk, hts, F, hW, hR, hs0, hb0, hnm, htab⟩ := X
  intro H locs la hH hlo hla hg
  exact lv_pop hx hb hd hva (k H locs la hH hlo hla hg)
theorem J.dup_x1 {va vb : Value} (X : JX M K l0 cc own nL ret nm hh lv h0 QR QX) (hd : decode cc pc = .ok (.dup_x1, 1))  (k : J M h (pc + 1) ls (va :: vb :: va :: st)) (hva : va.category = 1 := by first | rfl | exact jref_cat (jref_rf _))(hvb : vb.category = 1 := by first | rfl | exact jref_cat (jref_rf _)) : J M h pc ls (va :: vb :: st) := by
  obtain ⟨K1, h1, R1, X1, p, l, e, R, s, m, args, below, meth, c⟩ := M
  obtain ⟨⟨rfl, rfl, rfl, rfl, rfl⟩, hx, hb, hml, hown, hr, hlk, hts, F, hW, hR, hs0, hb0, hnm, htab⟩ := X
  intro H locs la hH hlo hla hg
  exact lv_dup_x1 hx hb hd hva hvb (k H locs la hH hlo hla hg)
theorem J.dup2 {va vb : Value} (X : JX M K l0 cc own nL ret nm hh lv h0 QR QX) (hd : decode cc pc = .ok (.dup2, 1))  (k : J M h (pc + 1) ls (va :: vb :: va :: vb :: st)) (hva : va.category = 1 := by first | rfl | exact jref_cat (jref_rf _))(hvb : vb.category = 1 := by first | rfl | exact jref_cat (jref_rf _)) : J M h pc ls (va :: vb :: st) := by
  obtain ⟨K1, h1, R1, X1, p, l, e, R, s, m, args, below, meth, c⟩ := M
  obtain ⟨⟨rfl, rfl, rfl, rfl, rfl⟩, hx, hb, hml, hown, hr, hlk, hts, F, hW, hR, hs0, hb0, hnm, htab⟩ := X
  intro H locs la hH hlo hla hg
  exact lv_dup2_11 hx hb hd hva hvb (k H locs la hH hlo hla hg)
theorem J.aconst_null (X : JX M K l0 cc own nL ret nm hh lv h0 QR QX) (hd : decode cc pc = .ok (.aconst_null, 1)) (k : J M h (pc + 1) ls (.null :: st)) : J M h pc ls st := by
  obtain ⟨K1, h1, R1, X1, p, l, e, R, s, m, args, below, meth, c⟩ := M
  obtain ⟨⟨rfl, rfl, rfl, rfl, rfl⟩, hx, hb, hml, hown, hr, hlk, hts, F, hW, hR, hs0, hb0, hnm, htab⟩ := X
  intro H locs la hH hlo hla hg
  exact lv_null hx hb hd (k H locs la hH hlo hla hg)
theorem J.goto {off : Int} {tgt : Nat} (X : JX M K l0 cc own nL ret nm hh lv h0 QR QX) (hd : decode cc pc = .ok (.goto off, 3)) (ht : (pc : Int) + off = (tgt : Int)) (k : J M h tgt ls st) : J M h pc ls st := by
  obtain ⟨K1, h1, R1, X1, p, l, e, R, s, m, args, below, meth, c⟩ := M
  obtain ⟨⟨rfl, rfl, rfl, rfl, rfl⟩, hx, hb, hml, hown, hr, hlk, hts, F, hW, hR, hs0, hb0, hnm, htab⟩ := X
  intro H locs la hH hlo hla hg
  exact lv_goto hx hb hd ht (k H locs la hH hlo hla hg)
theorem J.icmp_eq {x y : Int32} {off : Int} {tgt : Nat} (X : JX M K l0 cc own nL ret nm hh lv h0 QR QX) (hd : decode cc pc = .ok (.if_icmp .eq off, 3)) (ht : (pc : Int) + off = (tgt : Int)) (kt : x = y → J M h tgt ls st) (kf : ¬ x = y → J M h (pc + 3) ls st) : J M h pc ls (.int y :: .int x :: st) := by
  obtain ⟨K1, h1, R1, X1, p, l, e, R, s, m, args, below, meth, c⟩ := M
  obtain ⟨⟨rfl, rfl, rfl, rfl, rfl⟩, hx, hb, hml, hown, hr, hlk, hts, F, hW, hR, hs0, hb0, hnm, htab⟩ := X
  intro H locs la hH hlo hla hg
  exact lv_icmp_eq hx hb hd ht (fun q => kt q H locs la hH hlo hla hg) (fun q => kf q H locs la hH hlo hla hg)
theorem J.if_eq {x : Int32} {off : Int} {tgt : Nat} (X : JX M K l0 cc own nL ret nm hh lv h0 QR QX) (hd : decode cc pc = .ok (.ifCond .eq off, 3)) (ht : (pc : Int) + off = (tgt : Int)) (kt : x = 0 → J M h tgt ls st) (kf : ¬ x = 0 → J M h (pc + 3) ls st) : J M h pc ls (.int x :: st) := by
  obtain ⟨K1, h1, R1, X1, p, l, e, R, s, m, args, below, meth, c⟩ := M
  obtain ⟨⟨rfl, rfl, rfl, rfl, rfl⟩, hx, hb, hml, hown, hr, hlk, hts, F, hW, hR, hs0, hb0, hnm, htab⟩ := X
  intro H locs la hH hlo hla hg
  exact lv_if_eq hx hb hd ht (fun q => kt q H locs la hH hlo hla hg) (fun q => kf q H locs la hH hlo hla hg)
theorem J.icmp_ne {x y : Int32} {off : Int} {tgt : Nat} (X : JX M K l0 cc own nL ret nm hh lv h0 QR QX) (hd : decode cc pc = .ok (.if_icmp .ne off, 3)) (ht : (pc : Int) + off = (tgt : Int)) (kt : ¬ x = y → J M h tgt ls st) (kf : x = y → J M h (pc + 3) ls st) : J M h pc ls (.int y :: .int x :: st) := by
  obtain ⟨K1, h1, R1, X1, p, l, e, R, s, m, args, below, meth, c⟩ := M
  obtain ⟨⟨rfl, rfl, rfl, rfl, rfl⟩, hx, hb, hml, hown, hr, hlk, hts, F, hW, hR, hs0, hb0, hnm, htab⟩ := X
  intro H locs la hH hlo hla hg
  exact lv_icmp_ne hx hb hd ht (fun q => kt q H locs la hH hlo hla hg) (fun q => kf q H locs la hH hlo hla hg)
theorem J.if_ne {x : Int32} {off : Int} {tgt : Nat} (X : JX M K l0 cc own nL ret nm hh lv h0 QR QX) (hd : decode cc pc = .ok (.ifCond .ne off, 3)) (ht : (pc : Int) + off = (tgt : Int)) (kt : ¬ x = 0 → J M h tgt ls st) (kf : x = 0 → J M h (pc + 3) ls st) : J M h pc ls (.int x :: st) := by
  obtain ⟨K1, h1, R1, X1, p, l, e, R, s, m, args, below, meth, c⟩ := M
  obtain ⟨⟨rfl, rfl, rfl, rfl, rfl⟩, hx, hb, hml, hown, hr, hlk, hts, F, hW, hR, hs0, hb0, hnm, htab⟩ := X
  intro H locs la hH hlo hla hg
  exact lv_if_ne hx hb hd ht (fun q => kt q H locs la hH hlo hla hg) (fun q => kf q H locs la hH hlo hla hg)
theorem J.icmp_lt {x y : Int32} {off : Int} {tgt : Nat} (X : JX M K l0 cc own nL ret nm hh lv h0 QR QX) (hd : decode cc pc = .ok (.if_icmp .lt off, 3)) (ht : (pc : Int) + off = (tgt : Int)) (kt : x < y → J M h tgt ls st) (kf : ¬ x < y → J M h (pc + 3) ls st) : J M h pc ls (.int y :: .int x :: st) := by
  obtain ⟨K1, h1, R1, X1, p, l, e, R, s, m, args, below, meth, c⟩ := M
  obtain ⟨⟨rfl, rfl, rfl, rfl, rfl⟩, hx, hb, hml, hown, hr, hlk, hts, F, hW, hR, hs0, hb0, hnm, htab⟩ := X
  intro H locs la hH hlo hla hg
  exact lv_icmp_lt hx hb hd ht (fun q => kt q H locs la hH hlo hla hg) (fun q => kf q H locs la hH hlo hla hg)
theorem J.if_lt {x : Int32} {off : Int} {tgt : Nat} (X : JX M K l0 cc own nL ret nm hh lv h0 QR QX) (hd : decode cc pc = .ok (.ifCond .lt off, 3)) (ht : (pc : Int) + off = (tgt : Int)) (kt : x < 0 → J M h tgt ls st) (kf : ¬ x < 0 → J M h (pc + 3) ls st) : J M h pc ls (.int x :: st) := by
  obtain ⟨K1, h1, R1, X1, p, l, e, R, s, m, args, below, meth, c⟩ := M
  obtain ⟨⟨rfl, rfl, rfl, rfl, rfl⟩, hx, hb, hml, hown, hr, hlk, hts, F, hW, hR, hs0, hb0, hnm, htab⟩ := X
  intro H locs la hH hlo hla hg
  exact lv_if_lt hx hb hd ht (fun q => kt q H locs la hH hlo hla hg) (fun q => kf q H locs la hH hlo hla hg)
theorem J.icmp_ge {x y : Int32} {off : Int} {tgt : Nat} (X : JX M K l0 cc own nL ret nm hh lv h0 QR QX) (hd : decode cc pc = .ok (.if_icmp .ge off, 3)) (ht : (pc : Int) + off = (tgt : Int)) (kt : y ≤ x → J M h tgt ls st) (kf : ¬ y ≤ x → J M h (pc + 3) ls st) : J M h pc ls (.int y :: .int x :: st) := by
  obtain ⟨K1, h1, R1, X1, p, l, e, R, s, m, args, below, meth, c⟩ := M
  obtain ⟨⟨rfl, rfl, rfl, rfl, rfl⟩, hx, hb, hml, hown, hr, hlk, hts, F, hW, hR, hs0, hb0, hnm, htab⟩ := X
  intro H locs la hH hlo hla hg
  exact lv_icmp_ge hx hb hd ht (fun q => kt q H locs la hH hlo hla hg) (fun q => kf q H locs la hH hlo hla hg)
theorem J.if_ge {x : Int32} {off : Int} {tgt : Nat} (X : JX M K l0 cc own nL ret nm hh lv h0 QR QX) (hd : decode cc pc = .ok (.ifCond .ge off, 3)) (ht : (pc : Int) + off = (tgt : Int)) (kt : 0 ≤ x → J M h tgt ls st) (kf : ¬ 0 ≤ x → J M h (pc + 3) ls st) : J M h pc ls (.int x :: st) := by
  obtain ⟨K1, h1, R1, X1, p, l, e, R, s, m, args, below, meth, c⟩ := M
  obtain ⟨⟨rfl, rfl, rfl, rfl, rfl⟩, hx, hb, hml, hown, hr, hlk, hts, F, hW, hR, hs0, hb0, hnm, htab⟩ := X
  intro H locs la hH hlo hla hg
  exact lv_if_ge hx hb hd ht (fun q => kt q H locs la hH hlo hla hg) (fun q => kf q H locs la hH hlo hla hg)
theorem J.icmp_gt {x y : Int32} {off : Int} {tgt : Nat} (X : JX M K l0 cc own nL ret nm hh lv h0 QR QX) (hd : decode cc pc = .ok (.if_icmp .gt off, 3)) (ht : (pc : Int) + off = (tgt : Int)) (kt : y < x → J M h tgt ls st) (kf : ¬ y < x → J M h (pc + 3) ls st) : J M h pc ls (.int y :: .int x :: st) := by
  obtain ⟨K1, h1, R1, X1, p, l, e, R, s, m, args, below, meth, c⟩ := M
  obtain ⟨⟨rfl, rfl, rfl, rfl, rfl⟩, hx, hb, hml, hown, hr, hlk, hts, F, hW, hR, hs0, hb0, hnm, htab⟩ := X
  intro H locs la hH hlo hla hg
  exact lv_icmp_gt hx hb hd ht (fun q => kt q H locs la hH hlo hla hg) (fun q => kf q H locs la hH hlo hla hg)
theorem J.if_gt {x : Int32} {off : Int} {tgt : Nat} (X : JX M K l0 cc own nL ret nm hh lv h0 QR QX) (hd : decode cc pc = .ok (.ifCond .gt off, 3)) (ht : (pc : Int) + off = (tgt : Int)) (kt : 0 < x → J M h tgt ls st) (kf : ¬ 0 < x → J M h (pc + 3) ls st) : J M h pc ls (.int x :: st) := by
  obtain ⟨K1, h1, R1, X1, p, l, e, R, s, m, args, below, meth, c⟩ := M
  obtain ⟨⟨rfl, rfl, rfl, rfl, rfl⟩, hx, hb, hml, hown, hr, hlk, hts, F, hW, hR, hs0, hb0, hnm, htab⟩ := X
  intro H locs la hH hlo hla hg
  exact lv_if_gt hx hb hd ht (fun q => kt q H locs la hH hlo hla hg) (fun q => kf q H locs la hH hlo hla hg)
theorem J.icmp_le {x y : Int32} {off : Int} {tgt : Nat} (X : JX M K l0 cc own nL ret nm hh lv h0 QR QX) (hd : decode cc pc = .ok (.if_icmp .le off, 3)) (ht : (pc : Int) + off = (tgt : Int)) (kt : x ≤ y → J M h tgt ls st) (kf : ¬ x ≤ y → J M h (pc + 3) ls st) : J M h pc ls (.int y :: .int x :: st) := by
  obtain ⟨K1, h1, R1, X1, p, l, e, R, s, m, args, below, meth, c⟩ := M
  obtain ⟨⟨rfl, rfl, rfl, rfl, rfl⟩, hx, hb, hml, hown, hr, hlk, hts, F, hW, hR, hs0, hb0, hnm, htab⟩ := X
  intro H locs la hH hlo hla hg
  exact lv_icmp_le hx hb hd ht (fun q => kt q H locs la hH hlo hla hg) (fun q => kf q H locs la hH hlo hla hg)
theorem J.if_le {x : Int32} {off : Int} {tgt : Nat} (X : JX M K l0 cc own nL ret nm hh lv h0 QR QX) (hd : decode cc pc = .ok (.ifCond .le off, 3)) (ht : (pc : Int) + off = (tgt : Int)) (kt : x ≤ 0 → J M h tgt ls st) (kf : ¬ x ≤ 0 → J M h (pc + 3) ls st) : J M h pc ls (.int x :: st) := by
  obtain ⟨K1, h1, R1, X1, p, l, e, R, s, m, args, below, meth, c⟩ := M
  obtain ⟨⟨rfl, rfl, rfl, rfl, rfl⟩, hx, hb, hml, hown, hr, hlk, hts, F, hW, hR, hs0, hb0, hnm, htab⟩ := X
  intro H locs la hH hlo hla hg
  exact lv_if_le hx hb hd ht (fun q => kt q H locs la hH hlo hla hg) (fun q => kf q H locs la hH hlo hla hg)
theorem J.lcmp {x y : Int64} (X : JX M K l0 cc own nL ret nm hh lv h0 QR QX) (hd : decode cc pc = .ok (.lcmp, 1)) (k : J M h (pc + 1) ls (.int (lg_cmp x y) :: st)) : J M h pc ls (.long y :: .long x :: st) := by
  obtain ⟨K1, h1, R1, X1, p, l, e, R, s, m, args, below, meth, c⟩ := M
  obtain ⟨⟨rfl, rfl, rfl, rfl, rfl⟩, hx, hb, hml, hown, hr, hlk, hts, F, hW, hR, hs0, hb0, hnm, htab⟩ := X
  intro H locs la hH hlo hla hg
  exact W.lcmp hx hb hd (k H locs la hH hlo hla hg)
theorem J.ifnull {r : Option Nat} {off : Int} {tgt : Nat} (X : JX M K l0 cc own nL ret nm hh lv h0 QR QX) (hd : decode cc pc = .ok (.ifnull off, 3)) (ht : (pc : Int) + off = (tgt : Int)) (kn : r = none → J M h tgt ls st) (kr : ∀ a, r = some a → J M h (pc + 3) ls st) : J M h pc ls (va_rf r :: st) := by
  obtain ⟨K1, h1, R1, X1, p, l, e, R, s, m, args, below, meth, c⟩ := M
  obtain ⟨⟨rfl, rfl, rfl, rfl, rfl⟩, hx, hb, hml, hown, hr, hlk, hts, F, hW, hR, hs0, hb0, hnm, htab⟩ := X
  intro H locs la hH hlo hla hg
  cases r with
  | none => exact lv_ifnullN hx hb hd ht (kn rfl H locs la hH hlo hla hg)
  | some a => exact lv_ifnull hx hb hd (kr a rfl H locs la hH hlo hla hg)
theorem J.ifnullN {a : Nat} {off : Int} {tgt : Nat} (X : JX M K l0 cc own nL ret nm hh lv h0 QR QX) (hd : decode cc pc = .ok (.ifnull off, 3)) (ht : (pc : Int) + off = (tgt : Int)) (k : J M h tgt ls st) : J M h pc ls (.null :: st) :=
  J.ifnull (r := none) X hd ht (fun _ => k) (fun _ q => by cases q)
theorem J.ifnullR {a : Nat} {off : Int} {tgt : Nat} (X : JX M K l0 cc own nL ret nm hh lv h0 QR QX) (hd : decode cc pc = .ok (.ifnull off, 3)) (ht : (pc : Int) + off = (tgt : Int)) (k : J M h (pc + 3) ls st) : J M h pc ls (.ref a :: st) :=
  J.ifnull (r := some a) X hd ht (fun q => by cases q) (fun _ _ => k)
theorem J.ifnonnull {r : Option Nat} {off : Int} {tgt : Nat} (X : JX M K l0 cc own nL ret nm hh lv h0 QR QX) (hd : decode cc pc = .ok (.ifnonnull off, 3)) (ht : (pc : Int) + off = (tgt : Int)) (kn : r = none → J M h (pc + 3) ls st) (kr : ∀ a, r = some a → J M h tgt ls st) : J M h pc ls (va_rf r :: st) := by
  obtain ⟨K1, h1, R1, X1, p, l, e, R, s, m, args, below, meth, c⟩ := M
  obtain ⟨⟨rfl, rfl, rfl, rfl, rfl⟩, hx, hb, hml, hown, hr, hlk, hts, F, hW, hR, hs0, hb0, hnm, htab⟩ := X
  intro H locs la hH hlo hla hg
  cases r with
  | none => exact lv_ifnonnullN hx hb hd (kn rfl H locs la hH hlo hla hg)
  | some a => exact lv_ifnonnull hx hb hd ht (kr a rfl H locs la hH hlo hla hg)
theorem J.ifnonnullN {a : Nat} {off : Int} {tgt : Nat} (X : JX M K l0 cc own nL ret nm hh lv h0 QR QX) (hd : decode cc pc = .ok (.ifnonnull off, 3)) (ht : (pc : Int) + off = (tgt : Int)) (k : J M h (pc + 3) ls st) : J M h pc ls (.null :: st) :=
  J.ifnonnull (r := none) X hd ht (fun _ => k) (fun _ q => by cases q)
theorem J.ifnonnullR {a : Nat} {off : Int} {tgt : Nat} (X : JX M K l0 cc own nL ret nm hh lv h0 QR QX) (hd : decode cc pc = .ok (.ifnonnull off, 3)) (ht : (pc : Int) + off = (tgt : Int)) (k : J M h tgt ls st) : J M h pc ls (.ref a :: st) :=
  J.ifnonnull (r := some a) X hd ht (fun q => by cases q) (fun _ _ => k)
theorem J.acmp_eq {rx ry : Option Nat} {off : Int} {tgt : Nat} (X : JX M K l0 cc own nL ret nm hh lv h0 QR QX) (hd : decode cc pc = .ok (.if_acmp .eq off, 3)) (ht : (pc : Int) + off = (tgt : Int)) (kt : rx = ry → J M h tgt ls st) (kf : ¬ rx = ry → J M h (pc + 3) ls st) : J M h pc ls (va_rf ry :: va_rf rx :: st) := by
  obtain ⟨K1, h1, R1, X1, p, l, e, R, s, m, args, below, meth, c⟩ := M
  obtain ⟨⟨rfl, rfl, rfl, rfl, rfl⟩, hx, hb, hml, hown, hr, hlk, hts, F, hW, hR, hs0, hb0, hnm, htab⟩ := X
  intro H locs la hH hlo hla hg
  exact lv_acmp_eq hx hb hd ht (fun q => kt q H locs la hH hlo hla hg) (fun q => kf q H locs la hH hlo hla hg)
theorem J.acmp_ne {rx ry : Option Nat} {off : Int} {tgt : Nat} (X : JX M K l0 cc own nL ret nm hh lv h0 QR QX) (hd : decode cc pc = .ok (.if_acmp .ne off, 3)) (ht : (pc : Int) + off = (tgt : Int)) (kt : ¬ rx = ry → J M h tgt ls st) (kf : rx = ry → J M h (pc + 3) ls st) : J M h pc ls (va_rf ry :: va_rf rx :: st) := by
  obtain ⟨K1, h1, R1, X1, p, l, e, R, s, m, args, below, meth, c⟩ := M
  obtain ⟨⟨rfl, rfl, rfl, rfl, rfl⟩, hx, hb, hml, hown, hr, hlk, hts, F, hW, hR, hs0, hb0, hnm, htab⟩ := X
  intro H locs la hH hlo hla hg
  exact lv_acmp_ne hx hb hd ht (fun q => kt q H locs la hH hlo hla hg) (fun q => kf q H locs la hH hlo hla hg)
theorem J.iload0 {r : List (Option Value)} {v : Int32} (X : JX M K l0 cc own nL ret nm hh lv h0 QR QX) (hd : decode cc pc = .ok (.iload_n 0, 1)) (k : J M h (pc + 1) (some (.int v) :: r) (.int v :: st))  : J M h pc (some (.int v) :: r) st := by
  obtain ⟨K1, h1, R1, X1, p, l, e, R, s, m, args, below, meth, c⟩ := M
  obtain ⟨⟨rfl, rfl, rfl, rfl, rfl⟩, hx, hb, hml, hown, hr, hlk, hts, F, hW, hR, hs0, hb0, hnm, htab⟩ := X
  intro H locs la hH hlo hla hg
  exact lv_iload_n hx hb hd rfl (hla.2.2 0 _ rfl) (k H locs la hH hlo hla hg)
theorem J.lload0 {r : List (Option Value)} {v : Int64} (X : JX M K l0 cc own nL ret nm hh lv h0 QR QX) (hd : decode cc pc = .ok (.lload_n 0, 1)) (k : J M h (pc + 1) (some (.long v) :: r) (.long v :: st))  : J M h pc (some (.long v) :: r) st := by
  obtain ⟨K1, h1, R1, X1, p, l, e, R, s, m, args, below, meth, c⟩ := M
  obtain ⟨⟨rfl, rfl, rfl, rfl, rfl⟩, hx, hb, hml, hown, hr, hlk, hts, F, hW, hR, hs0, hb0, hnm, htab⟩ := X
  intro H locs la hH hlo hla hg
  exact lv_lload_n hx hb hd rfl (hla.2.2 0 _ rfl) (k H locs la hH hlo hla hg)
theorem J.aload0 {r : List (Option Value)} {v : Value} (X : JX M K l0 cc own nL ret nm hh lv h0 QR QX) (hd : decode cc pc = .ok (.aload_n 0, 1)) (k : J M h (pc + 1) (some (v) :: r) (v :: st)) (hv : jref v = true := by first | rfl | exact jref_rf _) : J M h pc (some (v) :: r) st := by
  obtain ⟨K1, h1, R1, X1, p, l, e, R, s, m, args, below, meth, c⟩ := M
  obtain ⟨⟨rfl, rfl, rfl, rfl, rfl⟩, hx, hb, hml, hown, hr, hlk, hts, F, hW, hR, hs0, hb0, hnm, htab⟩ := X
  intro H locs la hH hlo hla hg
  cases v with
  | null => exact lv_aload_nN hx hb hd rfl (hla.2.2 0 _ rfl) (k H locs la hH hlo hla hg)
  | ref a => exact lv_aload_n hx hb hd rfl (hla.2.2 0 _ rfl) (k H locs la hH hlo hla hg)
  | _ => cases hv
theorem J.istore0 {r : List (Option Value)} {v : Int32} {y : Option Value} (X : JX M K l0 cc own nL ret nm hh lv h0 QR QX) (hd : decode cc pc = .ok (.istore_n 0, 1)) (k : J M h (pc + 1) (some (.int v) :: r) st)   : J M h pc (y :: r) (.int v :: st) := by
  obtain ⟨K1, h1, R1, X1, p, l, e, R, s, m, args, below, meth, c⟩ := M
  obtain ⟨⟨rfl, rfl, rfl, rfl, rfl⟩, hx, hb, hml, hown, hr, hlk, hts, F, hW, hR, hs0, hb0, hnm, htab⟩ := X
  intro H locs la hH hlo hla hg
  exact lv_istore_n hx hb hd rfl hla.has (by show (0 : Nat) < _; simp) rfl (fun la' h' => k H locs la' hH hlo (jl.st1 (ls := y :: r) (some (.int v) :: r) rfl h' (by
    intro j w hj
    match j, hj with
    | 0, hj => exact Or.inl ⟨rfl, (Option.some.inj (Option.some.inj hj)).symm⟩
    | j + 1, hj => exact Or.inr ⟨by omega, hj, fun q => absurd q (by omega)⟩)) hg)
theorem J.astore0 {r : List (Option Value)} {v : Value} {y : Option Value} (X : JX M K l0 cc own nL ret nm hh lv h0 QR QX) (hd : decode cc pc = .ok (.astore_n 0, 1)) (k : J M h (pc + 1) (some (v) :: r) st) (hv : jref v = true := by first | rfl | exact jref_rf _)  : J M h pc (y :: r) (v :: st) := by
  obtain ⟨K1, h1, R1, X1, p, l, e, R, s, m, args, below, meth, c⟩ := M
  obtain ⟨⟨rfl, rfl, rfl, rfl, rfl⟩, hx, hb, hml, hown, hr, hlk, hts, F, hW, hR, hs0, hb0, hnm, htab⟩ := X
  intro H locs la hH hlo hla hg
  cases v with
  | null => exact lv_astore_nN hx hb hd rfl hla.has (by show (0 : Nat) < _; simp) rfl (fun la' h' => k H locs la' hH hlo (jl.st1 (ls := y :: r) (some (.null) :: r) rfl h' (by
      intro j w hj
      match j, hj with
      | 0, hj => exact Or.inl ⟨rfl, (Option.some.inj (Option.some.inj hj)).symm⟩
      | j + 1, hj => exact Or.inr ⟨by omega, hj, fun q => absurd q (by omega)⟩)) hg)
  | ref a => exact lv_astore_n hx hb hd rfl hla.has (by show (0 : Nat) < _; simp) rfl (fun la' h' => k H locs la' hH hlo (jl.st1 (ls := y :: r) (some (.ref a) :: r) rfl h' (by
      intro j w hj
      match j, hj with
      | 0, hj => exact Or.inl ⟨rfl, (Option.some.inj (Option.some.inj hj)).symm⟩
      | j + 1, hj => exact Or.inr ⟨by omega, hj, fun q => absurd q (by omega)⟩)) hg)
  | _ => cases hv
theorem J.iinc0 {r : List (Option Value)} {x : Int32} {n : Int} {d : Int32} (X : JX M K l0 cc own nL ret nm hh lv h0 QR QX) (hd : decode cc pc = .ok (.iinc 0 n, 3)) (he : Int32.ofInt n = d) (k : J M h (pc + 3) (some (.int (x + d)) :: r) st)  : J M h pc (some (.int x) :: r) st := by
  obtain ⟨K1, h1, R1, X1, p, l, e, R, s, m, args, below, meth, c⟩ := M
  obtain ⟨⟨rfl, rfl, rfl, rfl, rfl⟩, hx, hb, hml, hown, hr, hlk, hts, F, hW, hR, hs0, hb0, hnm, htab⟩ := X
  intro H locs la hH hlo hla hg
  subst he
  obtain ⟨p0, hp0⟩ := List.mem_iff_getElem?.mp (jlv_mem.mpr (show (some (.int x) :: r)[0]? = some (some (Value.int x)) from rfl))
  exact lv_iinc hx hb hd hla.has hp0 rfl (by simp) rfl (fun la' h' => k H locs la' hH hlo (jl.st1 (ls := some (.int x) :: r) (some (.int (x + Int32.ofInt n)) :: r) rfl h' (by
    intro j w hj
    match j, hj with
    | 0, hj => exact Or.inl ⟨rfl, (Option.some.inj (Option.some.inj hj)).symm⟩
    | j + 1, hj => exact Or.inr ⟨by omega, hj, fun q => absurd q (by omega)⟩)) hg)
theorem J.lstore0 {r : List (Option Value)} {v : Int64} {y z : Option Value} (X : JX M K l0 cc own nL ret nm hh lv h0 QR QX) (hd : decode cc pc = .ok (.lstore_n 0, 1)) (k : J M h (pc + 1) (some (.long v) :: none :: r) st)  : J M h pc (y :: z :: r) (.long v :: st) := by
  obtain ⟨K1, h1, R1, X1, p, l, e, R, s, m, args, below, meth, c⟩ := M
  obtain ⟨⟨rfl, rfl, rfl, rfl, rfl⟩, hx, hb, hml, hown, hr, hlk, hts, F, hW, hR, hs0, hb0, hnm, htab⟩ := X
  intro H locs la hH hlo hla hg
  exact lv_lstore_n hx hb hd rfl hla.has (by show (0 : Nat) + 1 < _; simp) rfl (fun la' h' => k H locs la' hH hlo (jl.st2 (ls := y :: z :: r) (some (.long v) :: none :: r) rfl h' (by
    intro j w hj
    match j, hj with
    | 0, hj => exact Or.inl ⟨rfl, (Option.some.inj (Option.some.inj hj)).symm⟩
    | 1, hj => cases hj
    | j + 2, hj => exact Or.inr ⟨by omega, by omega, hj, fun q => absurd q (by omega)⟩)) hg)
theorem J.iload1 {x0 : Option Value} {r : List (Option Value)} {v : Int32} (X : JX M K l0 cc own nL ret nm hh lv h0 QR QX) (hd : decode cc pc = .ok (.iload_n 1, 1)) (k : J M h (pc + 1) (x0 :: some (.int v) :: r) (.int v :: st))  : J M h pc (x0 :: some (.int v) :: r) st := by
  obtain ⟨K1, h1, R1, X1, p, l, e, R, s, m, args, below, meth, c⟩ := M
  obtain ⟨⟨rfl, rfl, rfl, rfl, rfl⟩, hx, hb, hml, hown, hr, hlk, hts, F, hW, hR, hs0, hb0, hnm, htab⟩ := X
  intro H locs la hH hlo hla hg
  exact lv_iload_n hx hb hd rfl (hla.2.2 1 _ rfl) (k H locs la hH hlo hla hg)
theorem J.lload1 {x0 : Option Value} {r : List (Option Value)} {v : Int64} (X : JX M K l0 cc own nL ret nm hh lv h0 QR QX) (hd : decode cc pc = .ok (.lload_n 1, 1)) (k : J M h (pc + 1) (x0 :: some (.long v) :: r) (.long v :: st))  : J M h pc (x0 :: some (.long v) :: r) st := by
  obtain ⟨K1, h1, R1, X1, p, l, e, R, s, m, args, below, meth, c⟩ := M
  obtain ⟨⟨rfl, rfl, rfl, rfl, rfl⟩, hx, hb, hml, hown, hr, hlk, hts, F, hW, hR, hs0, hb0, hnm, htab⟩ := X
  intro H locs la hH hlo hla hg
  exact lv_lload_n hx hb hd rfl (hla.2.2 1 _ rfl) (k H locs la hH hlo hla hg)
theorem J.aload1 {x0 : Option Value} {r : List (Option Value)} {v : Value} (X : JX M K l0 cc own nL ret nm hh lv h0 QR QX) (hd : decode cc pc = .ok (.aload_n 1, 1)) (k : J M h (pc + 1) (x0 :: some (v) :: r) (v :: st)) (hv : jref v = true := by first | rfl | exact jref_rf _) : J M h pc (x0 :: some (v) :: r) st := by
  obtain ⟨K1, h1, R1, X1, p, l, e, R, s, m, args, below, meth, c⟩ := M
  obtain ⟨⟨rfl, rfl, rfl, rfl, rfl⟩, hx, hb, hml, hown, hr, hlk, hts, F, hW, hR, hs0, hb0, hnm, htab⟩ := X
  intro H locs la hH hlo hla hg
  cases v with
  | null => exact lv_aload_nN hx hb hd rfl (hla.2.2 1 _ rfl) (k H locs la hH hlo hla hg)
  | ref a => exact lv_aload_n hx hb hd rfl (hla.2.2 1 _ rfl) (k H locs la hH hlo hla hg)
  | _ => cases hv
theorem J.istore1 {x0 : Option Value} {r : List (Option Value)} {v : Int32} {y : Option Value} (X : JX M K l0 cc own nL ret nm hh lv h0 QR QX) (hd : decode cc pc = .ok (.istore_n 1, 1)) (k : J M h (pc + 1) (x0 :: some (.int v) :: r) st)  (hc : jcat x0 = true := by first | rfl | exact jcat_rf _) : J M h pc (x0 :: y :: r) (.int v :: st) := by
  obtain ⟨K1, h1, R1, X1, p, l, e, R, s, m, args, below, meth, c⟩ := M
  obtain ⟨⟨rfl, rfl, rfl, rfl, rfl⟩, hx, hb, hml, hown, hr, hlk, hts, F, hW, hR, hs0, hb0, hnm, htab⟩ := X
  intro H locs la hH hlo hla hg
  exact lv_istore_n hx hb hd rfl hla.has (by show (1 : Nat) < _; simp) rfl (fun la' h' => k H locs la' hH hlo (jl.st1 (ls := x0 :: y :: r) (x0 :: some (.int v) :: r) rfl h' (by
    intro j w hj
    match j, hj with
    | 0, hj => exact Or.inr ⟨by decide, hj, fun _ => jcat_ne hc (Option.some.inj hj)⟩
    | 1, hj => exact Or.inl ⟨rfl, (Option.some.inj (Option.some.inj hj)).symm⟩
    | j + 2, hj => exact Or.inr ⟨by omega, hj, fun q => absurd q (by omega)⟩)) hg)
theorem J.astore1 {x0 : Option Value} {r : List (Option Value)} {v : Value} {y : Option Value} (X : JX M K l0 cc own nL ret nm hh lv h0 QR QX) (hd : decode cc pc = .ok (.astore_n 1, 1)) (k : J M h (pc + 1) (x0 :: some (v) :: r) st) (hv : jref v = true := by first | rfl | exact jref_rf _) (hc : jcat x0 = true := by first | rfl | exact jcat_rf _) : J M h pc (x0 :: y :: r) (v :: st) := by
  obtain ⟨K1, h1, R1, X1, p, l, e, R, s, m, args, below, meth, c⟩ := M
  obtain ⟨⟨rfl, rfl, rfl, rfl, rfl⟩, hx, hb, hml, hown, hr, hlk, hts, F, hW, hR, hs0, hb0, hnm, htab⟩ := X
  intro H locs la hH hlo hla hg
  cases v with
  | null => exact lv_astore_nN hx hb hd rfl hla.has (by show (1 : Nat) < _; simp) rfl (fun la' h' => k H locs la' hH hlo (jl.st1 (ls := x0 :: y :: r) (x0 :: some (.null) :: r) rfl h' (by
      intro j w hj
      match j, hj with
      | 0, hj => exact Or.inr ⟨by decide, hj, fun _ => jcat_ne hc (Option.some.inj hj)⟩
      | 1, hj => exact Or.inl ⟨rfl, (Option.some.inj (Option.some.inj hj)).symm⟩
      | j + 2, hj => exact Or.inr ⟨by omega, hj, fun q => absurd q (by omega)⟩)) hg)
  | ref a => exact lv_astore_n hx hb hd rfl hla.has (by show (1 : Nat) < _; simp) rfl (fun la' h' => k H locs la' hH hlo (jl.st1 (ls := x0 :: y :: r) (x0 :: some (.ref a) :: r) rfl h' (by
      intro j w hj
      match j, hj with
      | 0, hj => exact Or.inr ⟨by decide, hj, fun _ => jcat_ne hc (Option.some.inj hj)⟩
      | 1, hj => exact Or.inl ⟨rfl, (Option.some.inj (Option.some.inj hj)).symm⟩
      | j + 2, hj => exact Or.inr ⟨by omega, hj, fun q => absurd q (by omega)⟩)) hg)
  | _ => cases hv
theorem J.iinc1 {x0 : Option Value} {r : List (Option Value)} {x : Int32} {n : Int} {d : Int32} (X : JX M K l0 cc own nL ret nm hh lv h0 QR QX) (hd : decode cc pc = .ok (.iinc 1 n, 3)) (he : Int32.ofInt n = d) (k : J M h (pc + 3) (x0 :: some (.int (x + d)) :: r) st) (hc : jcat x0 = true := by first | rfl | exact jcat_rf _) : J M h pc (x0 :: some (.int x) :: r) st := by
  obtain ⟨K1, h1, R1, X1, p, l, e, R, s, m, args, below, meth, c⟩ := M
  obtain ⟨⟨rfl, rfl, rfl, rfl, rfl⟩, hx, hb, hml, hown, hr, hlk, hts, F, hW, hR, hs0, hb0, hnm, htab⟩ := X
  intro H locs la hH hlo hla hg
  subst he
  obtain ⟨p0, hp0⟩ := List.mem_iff_getElem?.mp (jlv_mem.mpr (show (x0 :: some (.int x) :: r)[1]? = some (some (Value.int x)) from rfl))
  exact lv_iinc hx hb hd hla.has hp0 rfl (by simp) rfl (fun la' h' => k H locs la' hH hlo (jl.st1 (ls := x0 :: some (.int x) :: r) (x0 :: some (.int (x + Int32.ofInt n)) :: r) rfl h' (by
    intro j w hj
    match j, hj with
    | 0, hj => exact Or.inr ⟨by decide, hj, fun _ => jcat_ne hc (Option.some.inj hj)⟩
    | 1, hj => exact Or.inl ⟨rfl, (Option.some.inj (Option.some.inj hj)).symm⟩
    | j + 2, hj => exact Or.inr ⟨by omega, hj, fun q => absurd q (by omega)⟩)) hg)
theorem J.lstore1 {x0 : Option Value} {r : List (Option Value)} {v : Int64} {y z : Option Value} (X : JX M K l0 cc own nL ret nm hh lv h0 QR QX) (hd : decode cc pc = .ok (.lstore_n 1, 1)) (k : J M h (pc + 1) (x0 :: some (.long v) :: none :: r) st) (hc : jcat x0 = true := by first | rfl | exact jcat_rf _) : J M h pc (x0 :: y :: z :: r) (.long v :: st) := by
  obtain ⟨K1, h1, R1, X1, p, l, e, R, s, m, args, below, meth, c⟩ := M
  obtain ⟨⟨rfl, rfl, rfl, rfl, rfl⟩, hx, hb, hml, hown, hr, hlk, hts, F, hW, hR, hs0, hb0, hnm, htab⟩ := X
  intro H locs la hH hlo hla hg
  exact lv_lstore_n hx hb hd rfl hla.has (by show (1 : Nat) + 1 < _; simp) rfl (fun la' h' => k H locs la' hH hlo (jl.st2 (ls := x0 :: y :: z :: r) (x0 :: some (.long v) :: none :: r) rfl h' (by
    intro j w hj
    match j, hj with
    | 0, hj => exact Or.inr ⟨by decide, by decide, hj, fun _ => jcat_ne hc (Option.some.inj hj)⟩
    | 1, hj => exact Or.inl ⟨rfl, (Option.some.inj (Option.some.inj hj)).symm⟩
    | 2, hj => cases hj
    | j + 3, hj => exact Or.inr ⟨by omega, by omega, hj, fun q => absurd q (by omega)⟩)) hg)
theorem J.iload2 {x0 x1 : Option Value} {r : List (Option Value)} {v : Int32} (X : JX M K l0 cc own nL ret nm hh lv h0 QR QX) (hd : decode cc pc = .ok (.iload_n 2, 1)) (k : J M h (pc + 1) (x0 :: x1 :: some (.int v) :: r) (.int v :: st))  : J M h pc (x0 :: x1 :: some (.int v) :: r) st := by
  obtain ⟨K1, h1, R1, X1, p, l, e, R, s, m, args, below, meth, c⟩ := M
  obtain ⟨⟨rfl, rfl, rfl, rfl, rfl⟩, hx, hb, hml, hown, hr, hlk, hts, F, hW, hR, hs0, hb0, hnm, htab⟩ := X
  intro H locs la hH hlo hla hg
  exact lv_iload_n hx hb hd rfl (hla.2.2 2 _ rfl) (k H locs la hH hlo hla hg)
theorem J.lload2 {x0 x1 : Option Value} {r : List (Option Value)} {v : Int64} (X : JX M K l0 cc own nL ret nm hh lv h0 QR QX) (hd : decode cc pc = .ok (.lload_n 2, 1)) (k : J M h (pc + 1) (x0 :: x1 :: some (.long v) :: r) (.long v :: st))  : J M h pc (x0 :: x1 :: some (.long v) :: r) st := by
  obtain ⟨K1, h1, R1, X1, p, l, e, R, s, m, args, below, meth, c⟩ := M
  obtain ⟨⟨rfl, rfl, rfl, rfl, rfl⟩, hx, hb, hml, hown, hr, hlk, hts, F, hW, hR, hs0, hb0, hnm, htab⟩ := X
  intro H locs la hH hlo hla hg
  exact lv_lload_n hx hb hd rfl (hla.2.2 2 _ rfl) (k H locs la hH hlo hla hg)
theorem J.aload2 {x0 x1 : Option Value} {r : List (Option Value)} {v : Value} (X : JX M K l0 cc own nL ret nm hh lv h0 QR QX) (hd : decode cc pc = .ok (.aload_n 2, 1)) (k : J M h (pc + 1) (x0 :: x1 :: some (v) :: r) (v :: st)) (hv : jref v = true := by first | rfl | exact jref_rf _) : J M h pc (x0 :: x1 :: some (v) :: r) st := by
  obtain ⟨K1, h1, R1, X1, p, l, e, R, s, m, args, below, meth, c⟩ := M
  obtain ⟨⟨rfl, rfl, rfl, rfl, rfl⟩, hx, hb, hml, hown, hr, hlk, hts, F, hW, hR, hs0, hb0, hnm, htab⟩ := X
  intro H locs la hH hlo hla hg
  cases v with
  | null => exact lv_aload_nN hx hb hd rfl (hla.2.2 2 _ rfl) (k H locs la hH hlo hla hg)
  | ref a => exact lv_aload_n hx hb hd rfl (hla.2.2 2 _ rfl) (k H locs la hH hlo hla hg)
  | _ => cases hv
theorem J.istore2 {x0 x1 : Option Value} {r : List (Option Value)} {v : Int32} {y : Option Value} (X : JX M K l0 cc own nL ret nm hh lv h0 QR QX) (hd : decode cc pc = .ok (.istore_n 2, 1)) (k : J M h (pc + 1) (x0 :: x1 :: some (.int v) :: r) st)  (hc : jcat x1 = true := by first | rfl | exact jcat_rf _) : J M h pc (x0 :: x1 :: y :: r) (.int v :: st) := by
  obtain ⟨K1, h1, R1, X1, p, l, e, R, s, m, args, below, meth, c⟩ := M
  obtain ⟨⟨rfl, rfl, rfl, rfl, rfl⟩, hx, hb, hml, hown, hr, hlk, hts, F, hW, hR, hs0, hb0, hnm, htab⟩ := X
  intro H locs la hH hlo hla hg
  exact lv_istore_n hx hb hd rfl hla.has (by show (2 : Nat) < _; simp) rfl (fun la' h' => k H locs la' hH hlo (jl.st1 (ls := x0 :: x1 :: y :: r) (x0 :: x1 :: some (.int v) :: r) rfl h' (by
    intro j w hj
    match j, hj with
    | 0, hj => exact Or.inr ⟨by decide, hj, fun q => absurd q (by decide)⟩
    | 1, hj => exact Or.inr ⟨by decide, hj, fun _ => jcat_ne hc (Option.some.inj hj)⟩
    | 2, hj => exact Or.inl ⟨rfl, (Option.some.inj (Option.some.inj hj)).symm⟩
    | j + 3, hj => exact Or.inr ⟨by omega, hj, fun q => absurd q (by omega)⟩)) hg)
theorem J.astore2 {x0 x1 : Option Value} {r : List (Option Value)} {v : Value} {y : Option Value} (X : JX M K l0 cc own nL ret nm hh lv h0 QR QX) (hd : decode cc pc = .ok (.astore_n 2, 1)) (k : J M h (pc + 1) (x0 :: x1 :: some (v) :: r) st) (hv : jref v = true := by first | rfl | exact jref_rf _) (hc : jcat x1 = true := by first | rfl | exact jcat_rf _) : J M h pc (x0 :: x1 :: y :: r) (v :: st) := by
  obtain ⟨K1, h1, R1, X1, p, l, e, R, s, m, args, below, meth, c⟩ := M
  obtain ⟨⟨rfl, rfl, rfl, rfl, rfl⟩, hx, hb, hml, hown, hr, hlk, hts, F, hW, hR, hs0, hb0, hnm, htab⟩ := X
  intro H locs la hH hlo hla hg
  cases v with
  | null => exact lv_astore_nN hx hb hd rfl hla.has (by show (2 : Nat) < _; simp) rfl (fun la' h' => k H locs la' hH hlo (jl.st1 (ls := x0 :: x1 :: y :: r) (x0 :: x1 :: some (.null) :: r) rfl h' (by
      intro j w hj
      match j, hj with
      | 0, hj => exact Or.inr ⟨by decide, hj, fun q => absurd q (by decide)⟩
      | 1, hj => exact Or.inr ⟨by decide, hj, fun _ => jcat_ne hc (Option.some.inj hj)⟩
      | 2, hj => exact Or.inl ⟨rfl, (Option.some.inj (Option.some.inj hj)).symm⟩
      | j + 3, hj => exact Or.inr ⟨by omega, hj, fun q => absurd q (by omega)⟩)) hg)
  | ref a => exact lv_astore_n hx hb hd rfl hla.has (by show (2 : Nat) < _; simp) rfl (fun la' h' => k H locs la' hH hlo (jl.st1 (ls := x0 :: x1 :: y :: r) (x0 :: x1 :: some (.ref a) :: r) rfl h' (by
      intro j w hj
      match j, hj with
      | 0, hj => exact Or.inr ⟨by decide, hj, fun q => absurd q (by decide)⟩
      | 1, hj => exact Or.inr ⟨by decide, hj, fun _ => jcat_ne hc (Option.some.inj hj)⟩
      | 2, hj => exact Or.inl ⟨rfl, (Option.some.inj (Option.some.inj hj)).symm⟩
      | j + 3, hj => exact Or.inr ⟨by omega, hj, fun q => absurd q (by omega)⟩)) hg)
  | _ => cases hv
theorem J.iinc2 {x0 x1 : Option Value} {r : List (Option Value)} {x : Int32} {n : Int} {d : Int32} (X : JX M K l0 cc own nL ret nm hh lv h0 QR QX) (hd : decode cc pc = .ok (.iinc 2 n, 3)) (he : Int32.ofInt n = d) (k : J M h (pc + 3) (x0 :: x1 :: some (.int (x + d)) :: r) st) (hc : jcat x1 = true := by first | rfl | exact jcat_rf _) : J M h pc (x0 :: x1 :: some (.int x) :: r) st := by
  obtain ⟨K1, h1, R1, X1, p, l, e, R, s, m, args, below, meth, c⟩ := M
  obtain ⟨⟨rfl, rfl, rfl, rfl, rfl⟩, hx, hb, hml, hown, hr, hlk, hts, F, hW, hR, hs0, hb0, hnm, htab⟩ := X
  intro H locs la hH hlo hla hg
  subst he
  obtain ⟨p0, hp0⟩ := List.mem_iff_getElem?.mp (jlv_mem.mpr (show (x0 :: x1 :: some (.int x) :: r)[2]? = some (some (Value.int x)) from rfl))
  exact lv_iinc hx hb hd hla.has hp0 rfl (by simp) rfl (fun la' h' => k H locs la' hH hlo (jl.st1 (ls := x0 :: x1 :: some (.int x) :: r) (x0 :: x1 :: some (.int (x + Int32.ofInt n)) :: r) rfl h' (by
    intro j w hj
    match j, hj with
    | 0, hj => exact Or.inr ⟨by decide, hj, fun q => absurd q (by decide)⟩
    | 1, hj => exact Or.inr ⟨by decide, hj, fun _ => jcat_ne hc (Option.some.inj hj)⟩
    | 2, hj => exact Or.inl ⟨rfl, (Option.some.inj (Option.some.inj hj)).symm⟩
    | j + 3, hj => exact Or.inr ⟨by omega, hj, fun q => absurd q (by omega)⟩)) hg)
theorem J.lstore2 {x0 x1 : Option Value} {r : List (Option Value)} {v : Int64} {y z : Option Value} (X : JX M K l0 cc own nL ret nm hh lv h0 QR QX) (hd : decode cc pc = .ok (.lstore_n 2, 1)) (k : J M h (pc + 1) (x0 :: x1 :: some (.long v) :: none :: r) st) (hc : jcat x1 = true := by first | rfl | exact jcat_rf _) : J M h pc (x0 :: x1 :: y :: z :: r) (.long v :: st) := by
  obtain ⟨K1, h1, R1, X1, p, l, e, R, s, m, args, below, meth, c⟩ := M
  obtain ⟨⟨rfl, rfl, rfl, rfl, rfl⟩, hx, hb, hml, hown, hr, hlk, hts, F, hW, hR, hs0, hb0, hnm, htab⟩ := X
  intro H locs la hH hlo hla hg
  exact lv_lstore_n hx hb hd rfl hla.has (by show (2 : Nat) + 1 < _; simp) rfl (fun la' h' => k H locs la' hH hlo (jl.st2 (ls := x0 :: x1 :: y :: z :: r) (x0 :: x1 :: some (.long v) :: none :: r) rfl h' (by
    intro j w hj
    match j, hj with
    | 0, hj => exact Or.inr ⟨by decide, by decide, hj, fun q => absurd q (by decide)⟩
    | 1, hj => exact Or.inr ⟨by decide, by decide, hj, fun _ => jcat_ne hc (Option.some.inj hj)⟩
    | 2, hj => exact Or.inl ⟨rfl, (Option.some.inj (Option.some.inj hj)).symm⟩
    | 3, hj => cases hj
    | j + 4, hj => exact Or.inr ⟨by omega, by omega, hj, fun q => absurd q (by omega)⟩)) hg)
theorem J.iload3 {x0 x1 x2 : Option Value} {r : List (Option Value)} {v : Int32} (X : JX M K l0 cc own nL ret nm hh lv h0 QR QX) (hd : decode cc pc = .ok (.iload_n 3, 1)) (k : J M h (pc + 1) (x0 :: x1 :: x2 :: some (.int v) :: r) (.int v :: st))  : J M h pc (x0 :: x1 :: x2 :: some (.int v) :: r) st := by
  obtain ⟨K1, h1, R1, X1, p, l, e, R, s, m, args, below, meth, c⟩ := M
  obtain ⟨⟨rfl, rfl, rfl, rfl, rfl⟩, hx, hb, hml, hown, hr, hlk, hts, F, hW, hR, hs0, hb0, hnm, htab⟩ := X
  intro H locs la hH hlo hla hg
  exact lv_iload_n hx hb hd rfl (hla.2.2 3 _ rfl) (k H locs la hH hlo hla hg)
theorem J.lload3 {x0 x1 x2 : Option Value} {r : List (Option Value)} {v : Int64} (X : JX M K l0 cc own nL ret nm hh lv h0 QR QX) (hd : decode cc pc = .ok (.lload_n 3, 1)) (k : J M h (pc + 1) (x0 :: x1 :: x2 :: some (.long v) :: r) (.long v :: st))  : J M h pc (x0 :: x1 :: x2 :: some (.long v) :: r) st := by
  obtain ⟨K1, h1, R1, X1, p, l, e, R, s, m, args, below, meth, c⟩ := M
  obtain ⟨⟨rfl, rfl, rfl, rfl, rfl⟩, hx, hb, hml, hown, hr, hlk, hts, F, hW, hR, hs0, hb0, hnm, htab⟩ := X
  intro H locs la hH hlo hla hg
  exact lv_lload_n hx hb hd rfl (hla.2.2 3 _ rfl) (k H locs la hH hlo hla hg)
theorem J.aload3 {x0 x1 x2 : Option Value} {r : List (Option Value)} {v : Value} (X : JX M K l0 cc own nL ret nm hh lv h0 QR QX) (hd : decode cc pc = .ok (.aload_n 3, 1)) (k : J M h (pc + 1) (x0 :: x1 :: x2 :: some (v) :: r) (v :: st)) (hv : jref v = true := by first | rfl | exact jref_rf _) : J M h pc (x0 :: x1 :: x2 :: some (v) :: r) st := by
  obtain ⟨K1, h1, R1, X1, p, l, e, R, s, m, args, below, meth, c⟩ := M
  obtain ⟨⟨rfl, rfl, rfl, rfl, rfl⟩, hx, hb, hml, hown, hr, hlk, hts, F, hW, hR, hs0, hb0, hnm, htab⟩ := X
  intro H locs la hH hlo hla hg
  cases v with
  | null => exact lv_aload_nN hx hb hd rfl (hla.2.2 3 _ rfl) (k H locs la hH hlo hla hg)
  | ref a => exact lv_aload_n hx hb hd rfl (hla.2.2 3 _ rfl) (k H locs la hH hlo hla hg)
  | _ => cases hv
theorem J.istore3 {x0 x1 x2 : Option Value} {r : List (Option Value)} {v : Int32} {y : Option Value} (X : JX M K l0 cc own nL ret nm hh lv h0 QR QX) (hd : decode cc pc = .ok (.istore_n 3, 1)) (k : J M h (pc + 1) (x0 :: x1 :: x2 :: some (.int v) :: r) st)  (hc : jcat x2 = true := by first | rfl | exact jcat_rf _) : J M h pc (x0 :: x1 :: x2 :: y :: r) (.int v :: st) := by
  obtain ⟨K1, h1, R1, X1, p, l, e, R, s, m, args, below, meth, c⟩ := M
  obtain ⟨⟨rfl, rfl, rfl, rfl, rfl⟩, hx, hb, hml, hown, hr, hlk, hts, F, hW, hR, hs0, hb0, hnm, htab⟩ := X
  intro H locs la hH hlo hla hg
  exact lv_istore_n hx hb hd rfl hla.has (by show (3 : Nat) < _; simp) rfl (fun la' h' => k H locs la' hH hlo (jl.st1 (ls := x0 :: x1 :: x2 :: y :: r) (x0 :: x1 :: x2 :: some (.int v) :: r) rfl h' (by
    intro j w hj
    match j, hj with
    | 0, hj => exact Or.inr ⟨by decide, hj, fun q => absurd q (by decide)⟩
    | 1, hj => exact Or.inr ⟨by decide, hj, fun q => absurd q (by decide)⟩
    | 2, hj => exact Or.inr ⟨by decide, hj, fun _ => jcat_ne hc (Option.some.inj hj)⟩
    | 3, hj => exact Or.inl ⟨rfl, (Option.some.inj (Option.some.inj hj)).symm⟩
    | j + 4, hj => exact Or.inr ⟨by omega, hj, fun q => absurd q (by omega)⟩)) hg)
theorem J.astore3 {x0 x1 x2 : Option Value} {r : List (Option Value)} {v : Value} {y : Option Value} (X : JX M K l0 cc own nL ret nm hh lv h0 QR QX) (hd : decode cc pc = .ok (.astore_n 3, 1)) (k : J M h (pc + 1) (x0 :: x1 :: x2 :: some (v) :: r) st) (hv : jref v = true := by first | rfl | exact jref_rf _) (hc : jcat x2 = true := by first | rfl | exact jcat_rf _) : J M h pc (x0 :: x1 :: x2 :: y :: r) (v :: st) := by
  obtain ⟨K1, h1, R1, X1, p, l, e, R, s, m, args, below, meth, c⟩ := M
  obtain ⟨⟨rfl, rfl, rfl, rfl, rfl⟩, hx, hb, hml, hown, hr, hlk, hts, F, hW, hR, hs0, hb0, hnm, htab⟩ := X
  intro H locs la hH hlo hla hg
  cases v with
  | null => exact lv_astore_nN hx hb hd rfl hla.has (by show (3 : Nat) < _; simp) rfl (fun la' h' => k H locs la' hH hlo (jl.st1 (ls := x0 :: x1 :: x2 :: y :: r) (x0 :: x1 :: x2 :: some (.null) :: r) rfl h' (by
      intro j w hj
      match j, hj with
      | 0, hj => exact Or.inr ⟨by decide, hj, fun q => absurd q (by decide)⟩
      | 1, hj => exact Or.inr ⟨by decide, hj, fun q => absurd q (by decide)⟩
      | 2, hj => exact Or.inr ⟨by decide, hj, fun _ => jcat_ne hc (Option.some.inj hj)⟩
      | 3, hj => exact Or.inl ⟨rfl, (Option.some.inj (Option.some.inj hj)).symm⟩
      | j + 4, hj => exact Or.inr ⟨by omega, hj, fun q => absurd q (by omega)⟩)) hg)
  | ref a => exact lv_astore_n hx hb hd rfl hla.has (by show (3 : Nat) < _; simp) rfl (fun la' h' => k H locs la' hH hlo (jl.st1 (ls := x0 :: x1 :: x2 :: y :: r) (x0 :: x1 :: x2 :: some (.ref a) :: r) rfl h' (by
      intro j w hj
      match j, hj with
      | 0, hj => exact Or.inr ⟨by decide, hj, fun q => absurd q (by decide)⟩
      | 1, hj => exact Or.inr ⟨by decide, hj, fun q => absurd q (by decide)⟩
      | 2, hj => exact Or.inr ⟨by decide, hj, fun _ => jcat_ne hc (Option.some.inj hj)⟩
      | 3, hj => exact Or.inl ⟨rfl, (Option.some.inj (Option.some.inj hj)).symm⟩
      | j + 4, hj => exact Or.inr ⟨by omega, hj, fun q => absurd q (by omega)⟩)) hg)
  | _ => cases hv
theorem J.iinc3 {x0 x1 x2 : Option Value} {r : List (Option Value)} {x : Int32} {n : Int} {d : Int32} (X : JX M K l0 cc own nL ret nm hh lv h0 QR QX) (hd : decode cc pc = .ok (.iinc 3 n, 3)) (he : Int32.ofInt n = d) (k : J M h (pc + 3) (x0 :: x1 :: x2 :: some (.int (x + d)) :: r) st) (hc : jcat x2 = true := by first | rfl | exact jcat_rf _) : J M h pc (x0 :: x1 :: x2 :: some (.int x) :: r) st := by
  obtain ⟨K1, h1, R1, X1, p, l, e, R, s, m, args, below, meth, c⟩ := M
  obtain ⟨⟨rfl, rfl, rfl, rfl, rfl⟩, hx, hb, hml, hown, hr, hlk, hts, F, hW, hR, hs0, hb0, hnm, htab⟩ := X
  intro H locs la hH hlo hla hg
  subst he
  obtain ⟨p0, hp0⟩ := List.mem_iff_getElem?.mp (jlv_mem.mpr (show (x0 :: x1 :: x2 :: some (.int x) :: r)[3]? = some (some (Value.int x)) from rfl))
  exact lv_iinc hx hb hd hla.has hp0 rfl (by simp) rfl (fun la' h' => k H locs la' hH hlo (jl.st1 (ls := x0 :: x1 :: x2 :: some (.int x) :: r) (x0 :: x1 :: x2 :: some (.int (x + Int32.ofInt n)) :: r) rfl h' (by
    intro j w hj
    match j, hj with
    | 0, hj => exact Or.inr ⟨by decide, hj, fun q => absurd q (by decide)⟩
    | 1, hj => exact Or.inr ⟨by decide, hj, fun q => absurd q (by decide)⟩
    | 2, hj => exact Or.inr ⟨by decide, hj, fun _ => jcat_ne hc (Option.some.inj hj)⟩
    | 3, hj => exact Or.inl ⟨rfl, (Option.some.inj (Option.some.inj hj)).symm⟩
    | j + 4, hj => exact Or.inr ⟨by omega, hj, fun q => absurd q (by omega)⟩)) hg)
theorem J.lstore3 {x0 x1 x2 : Option Value} {r : List (Option Value)} {v : Int64} {y z : Option Value} (X : JX M K l0 cc own nL ret nm hh lv h0 QR QX) (hd : decode cc pc = .ok (.lstore_n 3, 1)) (k : J M h (pc + 1) (x0 :: x1 :: x2 :: some (.long v) :: none :: r) st) (hc : jcat x2 = true := by first | rfl | exact jcat_rf _) : J M h pc (x0 :: x1 :: x2 :: y :: z :: r) (.long v :: st) := by
  obtain ⟨K1, h1, R1, X1, p, l, e, R, s, m, args, below, meth, c⟩ := M
  obtain ⟨⟨rfl, rfl, rfl, rfl, rfl⟩, hx, hb, hml, hown, hr, hlk, hts, F, hW, hR, hs0, hb0, hnm, htab⟩ := X
  intro H locs la hH hlo hla hg
  exact lv_lstore_n hx hb hd rfl hla.has (by show (3 : Nat) + 1 < _; simp) rfl (fun la' h' => k H locs la' hH hlo (jl.st2 (ls := x0 :: x1 :: x2 :: y :: z :: r) (x0 :: x1 :: x2 :: some (.long v) :: none :: r) rfl h' (by
    intro j w hj
    match j, hj with
    | 0, hj => exact Or.inr ⟨by decide, by decide, hj, fun q => absurd q (by decide)⟩
    | 1, hj => exact Or.inr ⟨by decide, by decide, hj, fun q => absurd q (by decide)⟩
    | 2, hj => exact Or.inr ⟨by decide, by decide, hj, fun _ => jcat_ne hc (Option.some.inj hj)⟩
    | 3, hj => exact Or.inl ⟨rfl, (Option.some.inj (Option.some.inj hj)).symm⟩
    | 4, hj => cases hj
    | j + 5, hj => exact Or.inr ⟨by omega, by omega, hj, fun q => absurd q (by omega)⟩)) hg)
theorem J.iload4 {x0 x1 x2 x3 : Option Value} {r : List (Option Value)} {v : Int32} (X : JX M K l0 cc own nL ret nm hh lv h0 QR QX) (hd : decode cc pc = .ok (.iload 4, 2)) (k : J M h (pc + 2) (x0 :: x1 :: x2 :: x3 :: some (.int v) :: r) (.int v :: st))  : J M h pc (x0 :: x1 :: x2 :: x3 :: some (.int v) :: r) st := by
  obtain ⟨K1, h1, R1, X1, p, l, e, R, s, m, args, below, meth, c⟩ := M
  obtain ⟨⟨rfl, rfl, rfl, rfl, rfl⟩, hx, hb, hml, hown, hr, hlk, hts, F, hW, hR, hs0, hb0, hnm, htab⟩ := X
  intro H locs la hH hlo hla hg
  exact lv_iload hx hb hd  (hla.2.2 4 _ rfl) (k H locs la hH hlo hla hg)
theorem J.lload4 {x0 x1 x2 x3 : Option Value} {r : List (Option Value)} {v : Int64} (X : JX M K l0 cc own nL ret nm hh lv h0 QR QX) (hd : decode cc pc = .ok (.lload 4, 2)) (k : J M h (pc + 2) (x0 :: x1 :: x2 :: x3 :: some (.long v) :: r) (.long v :: st))  : J M h pc (x0 :: x1 :: x2 :: x3 :: some (.long v) :: r) st := by
  obtain ⟨K1, h1, R1, X1, p, l, e, R, s, m, args, below, meth, c⟩ := M
  obtain ⟨⟨rfl, rfl, rfl, rfl, rfl⟩, hx, hb, hml, hown, hr, hlk, hts, F, hW, hR, hs0, hb0, hnm, htab⟩ := X
  intro H locs la hH hlo hla hg
  exact lv_lload hx hb hd  (hla.2.2 4 _ rfl) (k H locs la hH hlo hla hg)
theorem J.aload4 {x0 x1 x2 x3 : Option Value} {r : List (Option Value)} {v : Value} (X : JX M K l0 cc own nL ret nm hh lv h0 QR QX) (hd : decode cc pc = .ok (.aload 4, 2)) (k : J M h (pc + 2) (x0 :: x1 :: x2 :: x3 :: some (v) :: r) (v :: st)) (hv : jref v = true := by first | rfl | exact jref_rf _) : J M h pc (x0 :: x1 :: x2 :: x3 :: some (v) :: r) st := by
  obtain ⟨K1, h1, R1, X1, p, l, e, R, s, m, args, below, meth, c⟩ := M
  obtain ⟨⟨rfl, rfl, rfl, rfl, rfl⟩, hx, hb, hml, hown, hr, hlk, hts, F, hW, hR, hs0, hb0, hnm, htab⟩ := X
  intro H locs la hH hlo hla hg
  cases v with
  | null => exact lv_aloadN hx hb hd  (hla.2.2 4 _ rfl) (k H locs la hH hlo hla hg)
  | ref a => exact lv_aload hx hb hd  (hla.2.2 4 _ rfl) (k H locs la hH hlo hla hg)
  | _ => cases hv
theorem J.istore4 {x0 x1 x2 x3 : Option Value} {r : List (Option Value)} {v : Int32} {y : Option Value} (X : JX M K l0 cc own nL ret nm hh lv h0 QR QX) (hd : decode cc pc = .ok (.istore 4, 2)) (k : J M h (pc + 2) (x0 :: x1 :: x2 :: x3 :: some (.int v) :: r) st)  (hc : jcat x3 = true := by first | rfl | exact jcat_rf _) : J M h pc (x0 :: x1 :: x2 :: x3 :: y :: r) (.int v :: st) := by
  obtain ⟨K1, h1, R1, X1, p, l, e, R, s, m, args, below, meth, c⟩ := M
  obtain ⟨⟨rfl, rfl, rfl, rfl, rfl⟩, hx, hb, hml, hown, hr, hlk, hts, F, hW, hR, hs0, hb0, hnm, htab⟩ := X
  intro H locs la hH hlo hla hg
  exact lv_istore hx hb hd  hla.has (by show (4 : Nat) < _; simp) rfl (fun la' h' => k H locs la' hH hlo (jl.st1 (ls := x0 :: x1 :: x2 :: x3 :: y :: r) (x0 :: x1 :: x2 :: x3 :: some (.int v) :: r) rfl h' (by
    intro j w hj
    match j, hj with
    | 0, hj => exact Or.inr ⟨by decide, hj, fun q => absurd q (by decide)⟩
    | 1, hj => exact Or.inr ⟨by decide, hj, fun q => absurd q (by decide)⟩
    | 2, hj => exact Or.inr ⟨by decide, hj, fun q => absurd q (by decide)⟩
    | 3, hj => exact Or.inr ⟨by decide, hj, fun _ => jcat_ne hc (Option.some.inj hj)⟩
    | 4, hj => exact Or.inl ⟨rfl, (Option.some.inj (Option.some.inj hj)).symm⟩
    | j + 5, hj => exact Or.inr ⟨by omega, hj, fun q => absurd q (by omega)⟩)) hg)
theorem J.astore4 {x0 x1 x2 x3 : Option Value} {r : List (Option Value)} {v : Value} {y : Option Value} (X : JX M K l0 cc own nL ret nm hh lv h0 QR QX) (hd : decode cc pc = .ok (.astore 4, 2)) (k : J M h (pc + 2) (x0 :: x1 :: x2 :: x3 :: some (v) :: r) st) (hv : jref v = true := by first | rfl | exact jref_rf _) (hc : jcat x3 = true := by first | rfl | exact jcat_rf _) : J M h pc (x0 :: x1 :: x2 :: x3 :: y :: r) (v :: st) := by
  obtain ⟨K1, h1, R1, X1, p, l, e, R, s, m, args, below, meth, c⟩ := M
  obtain ⟨⟨rfl, rfl, rfl, rfl, rfl⟩, hx, hb, hml, hown, hr, hlk, hts, F, hW, hR, hs0, hb0, hnm, htab⟩ := X
  intro H locs la hH hlo hla hg
  cases v with
  | null => exact lv_astoreN hx hb hd  hla.has (by show (4 : Nat) < _; simp) rfl (fun la' h' => k H locs la' hH hlo (jl.st1 (ls := x0 :: x1 :: x2 :: x3 :: y :: r) (x0 :: x1 :: x2 :: x3 :: some (.null) :: r) rfl h' (by
      intro j w hj
      match j, hj with
      | 0, hj => exact Or.inr ⟨by decide, hj, fun q => absurd q (by decide)⟩
      | 1, hj => exact Or.inr ⟨by decide, hj, fun q => absurd q (by decide)⟩
      | 2, hj => exact Or.inr ⟨by decide, hj, fun q => absurd q (by decide)⟩
      | 3, hj => exact Or.inr ⟨by decide, hj, fun _ => jcat_ne hc (Option.some.inj hj)⟩
      | 4, hj => exact Or.inl ⟨rfl, (Option.some.inj (Option.some.inj hj)).symm⟩
      | j + 5, hj => exact Or.inr ⟨by omega, hj, fun q => absurd q (by omega)⟩)) hg)
  | ref a => exact lv_astore hx hb hd  hla.has (by show (4 : Nat) < _; simp) rfl (fun la' h' => k H locs la' hH hlo (jl.st1 (ls := x0 :: x1 :: x2 :: x3 :: y :: r) (x0 :: x1 :: x2 :: x3 :: some (.ref a) :: r) rfl h' (by
      intro j w hj
      match j, hj with
      | 0, hj => exact Or.inr ⟨by decide, hj, fun q => absurd q (by decide)⟩
      | 1, hj => exact Or.inr ⟨by decide, hj, fun q => absurd q (by decide)⟩
      | 2, hj => exact Or.inr ⟨by decide, hj, fun q => absurd q (by decide)⟩
      | 3, hj => exact Or.inr ⟨by decide, hj, fun _ => jcat_ne hc (Option.some.inj hj)⟩
      | 4, hj => exact Or.inl ⟨rfl, (Option.some.inj (Option.some.inj hj)).symm⟩
      | j + 5, hj => exact Or.inr ⟨by omega, hj, fun q => absurd q (by omega)⟩)) hg)
  | _ => cases hv
theorem J.iinc4 {x0 x1 x2 x3 : Option Value} {r : List (Option Value)} {x : Int32} {n : Int} {d : Int32} (X : JX M K l0 cc own nL ret nm hh lv h0 QR QX) (hd : decode cc pc = .ok (.iinc 4 n, 3)) (he : Int32.ofInt n = d) (k : J M h (pc + 3) (x0 :: x1 :: x2 :: x3 :: some (.int (x + d)) :: r) st) (hc : jcat x3 = true := by first | rfl | exact jcat_rf _) : J M h pc (x0 :: x1 :: x2 :: x3 :: some (.int x) :: r) st := by
  obtain ⟨K1, h1, R1, X1, p, l, e, R, s, m, args, below, meth, c⟩ := M
  obtain ⟨⟨rfl, rfl, rfl, rfl, rfl⟩, hx, hb, hml, hown, hr, hlk, hts, F, hW, hR, hs0, hb0, hnm, htab⟩ := X
  intro H locs la hH hlo hla hg
  subst he
  obtain ⟨p0, hp0⟩ := List.mem_iff_getElem?.mp (jlv_mem.mpr (show (x0 :: x1 :: x2 :: x3 :: some (.int x) :: r)[4]? = some (some (Value.int x)) from rfl))
  exact lv_iinc hx hb hd hla.has hp0 rfl (by simp) rfl (fun la' h' => k H locs la' hH hlo (jl.st1 (ls := x0 :: x1 :: x2 :: x3 :: some (.int x) :: r) (x0 :: x1 :: x2 :: x3 :: some (.int (x + Int32.ofInt n)) :: r) rfl h' (by
    intro j w hj
    match j, hj with
    | 0, hj => exact Or.inr ⟨by decide, hj, fun q => absurd q (by decide)⟩
    | 1, hj => exact Or.inr ⟨by decide, hj, fun q => absurd q (by decide)⟩
    | 2, hj => exact Or.inr ⟨by decide, hj, fun q => absurd q (by decide)⟩
    | 3, hj => exact Or.inr ⟨by decide, hj, fun _ => jcat_ne hc (Option.some.inj hj)⟩
    | 4, hj => exact Or.inl ⟨rfl, (Option.some.inj (Option.some.inj hj)).symm⟩
    | j + 5, hj => exact Or.inr ⟨by omega, hj, fun q => absurd q (by omega)⟩)) hg)
theorem J.lstore4 {x0 x1 x2 x3 : Option Value} {r : List (Option Value)} {v : Int64} {y z : Option Value} (X : JX M K l0 cc own nL ret nm hh lv h0 QR QX) (hd : decode cc pc = .ok (.lstore 4, 2)) (k : J M h (pc + 2) (x0 :: x1 :: x2 :: x3 :: some (.long v) :: none :: r) st) (hc : jcat x3 = true := by first | rfl | exact jcat_rf _) : J M h pc (x0 :: x1 :: x2 :: x3 :: y :: z :: r) (.long v :: st) := by
  obtain ⟨K1, h1, R1, X1, p, l, e, R, s, m, args, below, meth, c⟩ := M
  obtain ⟨⟨rfl, rfl, rfl, rfl, rfl⟩, hx, hb, hml, hown, hr, hlk, hts, F, hW, hR, hs0, hb0, hnm, htab⟩ := X
  intro H locs la hH hlo hla hg
  exact lv_lstore hx hb hd  hla.has (by show (4 : Nat) + 1 < _; simp) rfl (fun la' h' => k H locs la' hH hlo (jl.st2 (ls := x0 :: x1 :: x2 :: x3 :: y :: z :: r) (x0 :: x1 :: x2 :: x3 :: some (.long v) :: none :: r) rfl h' (by
    intro j w hj
    match j, hj with
    | 0, hj => exact Or.inr ⟨by decide, by decide, hj, fun q => absurd q (by decide)⟩
    | 1, hj => exact Or.inr ⟨by decide, by decide, hj, fun q => absurd q (by decide)⟩
    | 2, hj => exact Or.inr ⟨by decide, by decide, hj, fun q => absurd q (by decide)⟩
    | 3, hj => exact Or.inr ⟨by decide, by decide, hj, fun _ => jcat_ne hc (Option.some.inj hj)⟩
    | 4, hj => exact Or.inl ⟨rfl, (Option.some.inj (Option.some.inj hj)).symm⟩
    | 5, hj => cases hj
    | j + 6, hj => exact Or.inr ⟨by omega, by omega, hj, fun q => absurd q (by omega)⟩)) hg)
theorem J.iload5 {x0 x1 x2 x3 x4 : Option Value} {r : List (Option Value)} {v : Int32} (X : JX M K l0 cc own nL ret nm hh lv h0 QR QX) (hd : decode cc pc = .ok (.iload 5, 2)) (k : J M h (pc + 2) (x0 :: x1 :: x2 :: x3 :: x4 :: some (.int v) :: r) (.int v :: st))  : J M h pc (x0 :: x1 :: x2 :: x3 :: x4 :: some (.int v) :: r) st := by
  obtain ⟨K1, h1, R1, X1, p, l, e, R, s, m, args, below, meth, c⟩ := M
  obtain ⟨⟨rfl, rfl, rfl, rfl, rfl⟩, hx, hb, hml, hown, hr, hlk, hts, F, hW, hR, hs0, hb0, hnm, htab⟩ := X
  intro H locs la hH hlo hla hg
  exact lv_iload hx hb hd  (hla.2.2 5 _ rfl) (k H locs la hH hlo hla hg)
theorem J.lload5 {x0 x1 x2 x3 x4 : Option Value} {r : List (Option Value)} {v : Int64} (X : JX M K l0 cc own nL ret nm hh lv h0 QR QX) (hd : decode cc pc = .ok (.lload 5, 2)) (k : J M h (pc + 2) (x0 :: x1 :: x2 :: x3 :: x4 :: some (.long v) :: r) (.long v :: st))  : J M h pc (x0 :: x1 :: x2 :: x3 :: x4 :: some (.long v) :: r) st := by
  obtain ⟨K1, h1, R1, X1, p, l, e, R, s, m, args, below, meth, c⟩ := M
  obtain ⟨⟨rfl, rfl, rfl, rfl, rfl⟩, hx, hb, hml, hown, hr, hlk, hts, F, hW, hR, hs0, hb0, hnm, htab⟩ := X
  intro H locs la hH hlo hla hg
  exact lv_lload hx hb hd  (hla.2.2 5 _ rfl) (k H locs la hH hlo hla hg)
theorem J.aload5 {x0 x1 x2 x3 x4 : Option Value} {r : List (Option Value)} {v : Value} (X : JX M K l0 cc own nL ret nm hh lv h0 QR QX) (hd : decode cc pc = .ok (.aload 5, 2)) (k : J M h (pc + 2) (x0 :: x1 :: x2 :: x3 :: x4 :: some (v) :: r) (v :: st)) (hv : jref v = true := by first | rfl | exact jref_rf _) : J M h pc (x0 :: x1 :: x2 :: x3 :: x4 :: some (v) :: r) st := by
  obtain ⟨K1, h1, R1, X1, p, l, e, R, s, m, args, below, meth, c⟩ := M
  obtain ⟨⟨rfl, rfl, rfl, rfl, rfl⟩, hx, hb, hml, hown, hr, hlk, hts, F, hW, hR, hs0, hb0, hnm, htab⟩ := X
  intro H locs la hH hlo hla hg
  cases v with
  | null => exact lv_aloadN hx hb hd  (hla.2.2 5 _ rfl) (k H locs la hH hlo hla hg)
  | ref a => exact lv_aload hx hb hd  (hla.2.2 5 _ rfl) (k H locs la hH hlo hla hg)
  | _ => cases hv
theorem J.istore5 {x0 x1 x2 x3 x4 : Option Value} {r : List (Option Value)} {v : Int32} {y : Option Value} (X : JX M K l0 cc own nL ret nm hh lv h0 QR QX) (hd : decode cc pc = .ok (.istore 5, 2)) (k : J M h (pc + 2) (x0 :: x1 :: x2 :: x3 :: x4 :: some (.int v) :: r) st)  (hc : jcat x4 = true := by first | rfl | exact jcat_rf _) : J M h pc (x0 :: x1 :: x2 :: x3 :: x4 :: y :: r) (.int v :: st) := by
  obtain ⟨K1, h1, R1, X1, p, l, e, R, s, m, args, below, meth, c⟩ := M
  obtain ⟨⟨rfl, rfl, rfl, rfl, rfl⟩, hx, hb, hml, hown, hr, hlk, hts, F, hW, hR, hs0, hb0, hnm, htab⟩ := X
  intro H locs la hH hlo hla hg
  exact lv_istore hx hb hd  hla.has (by show (5 : Nat) < _; simp) rfl (fun la' h' => k H locs la' hH hlo (jl.st1 (ls := x0 :: x1 :: x2 :: x3 :: x4 :: y :: r) (x0 :: x1 :: x2 :: x3 :: x4 :: some (.int v) :: r) rfl h' (by
    intro j w hj
    match j, hj with
    | 0, hj => exact Or.inr ⟨by decide, hj, fun q => absurd q (by decide)⟩
    | 1, hj => exact Or.inr ⟨by decide, hj, fun q => absurd q (by decide)⟩
    | 2, hj => exact Or.inr ⟨by decide, hj, fun q => absurd q (by decide)⟩
    | 3, hj => exact Or.inr ⟨by decide, hj, fun q => absurd q (by decide)⟩
    | 4, hj => exact Or.inr ⟨by decide, hj, fun _ => jcat_ne hc (Option.some.inj hj)⟩
    | 5, hj => exact Or.inl ⟨rfl, (Option.some.inj (Option.some.inj hj)).symm⟩
    | j + 6, hj => exact Or.inr ⟨by omega, hj, fun q => absurd q (by omega)⟩)) hg)
theorem J.astore5 {x0 x1 x2 x3 x4 : Option Value} {r : List (Option Value)} {v : Value} {y : Option Value} (X : JX M K l0 cc own nL ret nm hh lv h0 QR QX) (hd : decode cc pc = .ok (.astore 5, 2)) (k : J M h (pc + 2) (x0 :: x1 :: x2 :: x3 :: x4 :: some (v) :: r) st) (hv : jref v = true := by first | rfl | exact jref_rf _) (hc : jcat x4 = true := by first | rfl | exact jcat_rf _) : J M h pc (x0 :: x1 :: x2 :: x3 :: x4 :: y :: r) (v :: st) := by
  obtain ⟨K1, h1, R1, X1, p, l, e, R, s, m, args, below, meth, c⟩ := M
  obtain ⟨⟨rfl, rfl, rfl, rfl, rfl⟩, hx, hb, hml, hown, hr, hlk, hts, F, hW, hR, hs0, hb0, hnm, htab⟩ := X
  intro H locs la hH hlo hla hg
  cases v with
  | null => exact lv_astoreN hx hb hd  hla.has (by show (5 : Nat) < _; simp) rfl (fun la' h' => k H locs la' hH hlo (jl.st1 (ls := x0 :: x1 :: x2 :: x3 :: x4 :: y :: r) (x0 :: x1 :: x2 :: x3 :: x4 :: some (.null) :: r) rfl h' (by
      intro j w hj
      match j, hj with
      | 0, hj => exact Or.inr ⟨by decide, hj, fun q => absurd q (by decide)⟩
      | 1, hj => exact Or.inr ⟨by decide, hj, fun q => absurd q (by decide)⟩
      | 2, hj => exact Or.inr ⟨by decide, hj, fun q => absurd q (by decide)⟩
      | 3, hj => exact Or.inr ⟨by decide, hj, fun q => absurd q (by decide)⟩
      | 4, hj => exact Or.inr ⟨by decide, hj, fun _ => jcat_ne hc (Option.some.inj hj)⟩
      | 5, hj => exact Or.inl ⟨rfl, (Option.some.inj (Option.some.inj hj)).symm⟩
      | j + 6, hj => exact Or.inr ⟨by omega, hj, fun q => absurd q (by omega)⟩)) hg)
  | ref a => exact lv_astore hx hb hd  hla.has (by show (5 : Nat) < _; simp) rfl (fun la' h' => k H locs la' hH hlo (jl.st1 (ls := x0 :: x1 :: x2 :: x3 :: x4 :: y :: r) (x0 :: x1 :: x2 :: x3 :: x4 :: some (.ref a) :: r) rfl h' (by
      intro j w hj
      match j, hj with
      | 0, hj => exact Or.inr ⟨by decide, hj, fun q => absurd q (by decide)⟩
      | 1, hj => exact Or.inr ⟨by decide, hj, fun q => absurd q (by decide)⟩
      | 2, hj => exact Or.inr ⟨by decide, hj, fun q => absurd q (by decide)⟩
      | 3, hj => exact Or.inr ⟨by decide, hj, fun q => absurd q (by decide)⟩
      | 4, hj => exact Or.inr ⟨by decide, hj, fun _ => jcat_ne hc (Option.some.inj hj)⟩
      | 5, hj => exact Or.inl ⟨rfl, (Option.some.inj (Option.some.inj hj)).symm⟩
      | j + 6, hj => exact Or.inr ⟨by omega, hj, fun q => absurd q (by omega)⟩)) hg)
  | _ => cases hv
theorem J.iinc5 {x0 x1 x2 x3 x4 : Option Value} {r : List (Option Value)} {x : Int32} {n : Int} {d : Int32} (X : JX M K l0 cc own nL ret nm hh lv h0 QR QX) (hd : decode cc pc = .ok (.iinc 5 n, 3)) (he : Int32.ofInt n = d) (k : J M h (pc + 3) (x0 :: x1 :: x2 :: x3 :: x4 :: some (.int (x + d)) :: r) st) (hc : jcat x4 = true := by first | rfl | exact jcat_rf _) : J M h pc (x0 :: x1 :: x2 :: x3 :: x4 :: some (.int x) :: r) st := by
  obtain ⟨K1, h1, R1, X1, p, l, e, R, s, m, args, below, meth, c⟩ := M
  obtain ⟨⟨rfl, rfl, rfl, rfl, rfl⟩, hx, hb, hml, hown, hr, hlk, hts, F, hW, hR, hs0, hb0, hnm, htab⟩ := X
  intro H locs la hH hlo hla hg
  subst he
  obtain ⟨p0, hp0⟩ := List.mem_iff_getElem?.mp (jlv_mem.mpr (show (x0 :: x1 :: x2 :: x3 :: x4 :: some (.int x) :: r)[5]? = some (some (Value.int x)) from rfl))
  exact lv_iinc hx hb hd hla.has hp0 rfl (by simp) rfl (fun la' h' => k H locs la' hH hlo (jl.st1 (ls := x0 :: x1 :: x2 :: x3 :: x4 :: some (.int x) :: r) (x0 :: x1 :: x2 :: x3 :: x4 :: some (.int (x + Int32.ofInt n)) :: r) rfl h' (by
    intro j w hj
    match j, hj with
    | 0, hj => exact Or.inr ⟨by decide, hj, fun q => absurd q (by decide)⟩
    | 1, hj => exact Or.inr ⟨by decide, hj, fun q => absurd q (by decide)⟩
    | 2, hj => exact Or.inr ⟨by decide, hj, fun q => absurd q (by decide)⟩
    | 3, hj => exact Or.inr ⟨by decide, hj, fun q => absurd q (by decide)⟩
    | 4, hj => exact Or.inr ⟨by decide, hj, fun _ => jcat_ne hc (Option.some.inj hj)⟩
    | 5, hj => exact Or.inl ⟨rfl, (Option.some.inj (Option.some.inj hj)).symm⟩
    | j + 6, hj => exact Or.inr ⟨by omega, hj, fun q => absurd q (by omega)⟩)) hg)
theorem J.lstore5 {x0 x1 x2 x3 x4 : Option Value} {r : List (Option Value)} {v : Int64} {y z : Option Value} (X : JX M K l0 cc own nL ret nm hh lv h0 QR QX) (hd : decode cc pc = .ok (.lstore 5, 2)) (k : J M h (pc + 2) (x0 :: x1 :: x2 :: x3 :: x4 :: some (.long v) :: none :: r) st) (hc : jcat x4 = true := by first | rfl | exact jcat_rf _) : J M h pc (x0 :: x1 :: x2 :: x3 :: x4 :: y :: z :: r) (.long v :: st) := by
  obtain ⟨K1, h1, R1, X1, p, l, e, R, s, m, args, below, meth, c⟩ := M
  obtain ⟨⟨rfl, rfl, rfl, rfl, rfl⟩, hx, hb, hml, hown, hr, hlk, hts, F, hW, hR, hs0, hb0, hnm, htab⟩ := X
  intro H locs la hH hlo hla hg
  exact lv_lstore hx hb hd  hla.has (by show (5 : Nat) + 1 < _; simp) rfl (fun la' h' => k H locs la' hH hlo (jl.st2 (ls := x0 :: x1 :: x2 :: x3 :: x4 :: y :: z :: r) (x0 :: x1 :: x2 :: x3 :: x4 :: some (.long v) :: none :: r) rfl h' (by
    intro j w hj
    match j, hj with
    | 0, hj => exact Or.inr ⟨by decide, by decide, hj, fun q => absurd q (by decide)⟩
    | 1, hj => exact Or.inr ⟨by decide, by decide, hj, fun q => absurd q (by decide)⟩
    | 2, hj => exact Or.inr ⟨by decide, by decide, hj, fun q => absurd q (by decide)⟩
    | 3, hj => exact Or.inr ⟨by decide, by decide, hj, fun q => absurd q (by decide)⟩
    | 4, hj => exact Or.inr ⟨by decide, by decide, hj, fun _ => jcat_ne hc (Option.some.inj hj)⟩
    | 5, hj => exact Or.inl ⟨rfl, (Option.some.inj (Option.some.inj hj)).symm⟩
    | 6, hj => cases hj
    | j + 7, hj => exact Or.inr ⟨by omega, by omega, hj, fun q => absurd q (by omega)⟩)) hg)
theorem J.iload6 {x0 x1 x2 x3 x4 x5 : Option Value} {r : List (Option Value)} {v : Int32} (X : JX M K l0 cc own nL ret nm hh lv h0 QR QX) (hd : decode cc pc = .ok (.iload 6, 2)) (k : J M h (pc + 2) (x0 :: x1 :: x2 :: x3 :: x4 :: x5 :: some (.int v) :: r) (.int v :: st))  : J M h pc (x0 :: x1 :: x2 :: x3 :: x4 :: x5 :: some (.int v) :: r) st := by
  obtain ⟨K1, h1, R1, X1, p, l, e, R, s, m, args, below, meth, c⟩ := M
  obtain ⟨⟨rfl, rfl, rfl, rfl, rfl⟩, hx, hb, hml, hown, hr, hlk, hts, F, hW, hR, hs0, hb0, hnm, htab⟩ := X
  intro H locs la hH hlo hla hg
  exact lv_iload hx hb hd  (hla.2.2 6 _ rfl) (k H locs la hH hlo hla hg)
theorem J.lload6 {x0 x1 x2 x3 x4 x5 : Option Value} {r : List (Option Value)} {v : Int64} (X : JX M K l0 cc own nL ret nm hh lv h0 QR QX) (hd : decode cc pc = .ok (.lload 6, 2)) (k : J M h (pc + 2) (x0 :: x1 :: x2 :: x3 :: x4 :: x5 :: some (.long v) :: r) (.long v :: st))  : J M h pc (x0 :: x1 :: x2 :: x3 :: x4 :: x5 :: some (.long v) :: r) st := by
  obtain ⟨K1, h1, R1, X1, p, l, e, R, s, m, args, below, meth, c⟩ := M
  obtain ⟨⟨rfl, rfl, rfl, rfl, rfl⟩, hx, hb, hml, hown, hr, hlk, hts, F, hW, hR, hs0, hb0, hnm, htab⟩ := X
  intro H locs la hH hlo hla hg
  exact lv_lload hx hb hd  (hla.2.2 6 _ rfl) (k H locs la hH hlo hla hg)
theorem J.aload6 {x0 x1 x2 x3 x4 x5 : Option Value} {r : List (Option Value)} {v : Value} (X : JX M K l0 cc own nL ret nm hh lv h0 QR QX) (hd : decode cc pc = .ok (.aload 6, 2)) (k : J M h (pc + 2) (x0 :: x1 :: x2 :: x3 :: x4 :: x5 :: some (v) :: r) (v :: st)) (hv : jref v = true := by first | rfl | exact jref_rf _) : J M h pc (x0 :: x1 :: x2 :: x3 :: x4 :: x5 :: some (v) :: r) st := by
  obtain ⟨K1, h1, R1, X1, p, l, e, R, s, m, args, below, meth, c⟩ := M
  obtain ⟨⟨rfl, rfl, rfl, rfl, rfl⟩, hx, hb, hml, hown, hr, hlk, hts, F, hW, hR, hs0, hb0, hnm, htab⟩ := X
  intro H locs la hH hlo hla hg
  cases v with
  | null => exact lv_aloadN hx hb hd  (hla.2.2 6 _ rfl) (k H locs la hH hlo hla hg)
  | ref a => exact lv_aload hx hb hd  (hla.2.2 6 _ rfl) (k H locs la hH hlo hla hg)
  | _ => cases hv
theorem J.istore6 {x0 x1 x2 x3 x4 x5 : Option Value} {r : List (Option Value)} {v : Int32} {y : Option Value} (X : JX M K l0 cc own nL ret nm hh lv h0 QR QX) (hd : decode cc pc = .ok (.istore 6, 2)) (k : J M h (pc + 2) (x0 :: x1 :: x2 :: x3 :: x4 :: x5 :: some (.int v) :: r) st)  (hc : jcat x5 = true := by first | rfl | exact jcat_rf _) : J M h pc (x0 :: x1 :: x2 :: x3 :: x4 :: x5 :: y :: r) (.int v :: st) := by
  obtain ⟨K1, h1, R1, X1, p, l, e, R, s, m, args, below, meth, c⟩ := M
  obtain ⟨⟨rfl, rfl, rfl, rfl, rfl⟩, hx, hb, hml, hown, hr, hlk, hts, F, hW, hR, hs0, hb0, hnm, htab⟩ := X
  intro H locs la hH hlo hla hg
  exact lv_istore hx hb hd  hla.has (by show (6 : Nat) < _; simp) rfl (fun la' h' => k H locs la' hH hlo (jl.st1 (ls := x0 :: x1 :: x2 :: x3 :: x4 :: x5 :: y :: r) (x0 :: x1 :: x2 :: x3 :: x4 :: x5 :: some (.int v) :: r) rfl h' (by
    intro j w hj
    match j, hj with
    | 0, hj => exact Or.inr ⟨by decide, hj, fun q => absurd q (by decide)⟩
    | 1, hj => exact Or.inr ⟨by decide, hj, fun q => absurd q (by decide)⟩
    | 2, hj => exact Or.inr ⟨by decide, hj, fun q => absurd q (by decide)⟩
    | 3, hj => exact Or.inr ⟨by decide, hj, fun q => absurd q (by decide)⟩
    | 4, hj => exact Or.inr ⟨by decide, hj, fun q => absurd q (by decide)⟩
    | 5, hj => exact Or.inr ⟨by decide, hj, fun _ => jcat_ne hc (Option.some.inj hj)⟩
    | 6, hj => exact Or.inl ⟨rfl, (Option.some.inj (Option.some.inj hj)).symm⟩
    | j + 7, hj => exact Or.inr ⟨by omega, hj, fun q => absurd q (by omega)⟩)) hg)
theorem J.astore6 {x0 x1 x2 x3 x4 x5 : Option Value} {r : List (Option Value)} {v : Value} {y : Option Value} (X : JX M K l0 cc own nL ret nm hh lv h0 QR QX) (hd : decode cc pc = .ok (.astore 6, 2)) (k : J M h (pc + 2) (x0 :: x1 :: x2 :: x3 :: x4 :: x5 :: some (v) :: r) st) (hv : jref v = true := by first | rfl | exact jref_rf _) (hc : jcat x5 = true := by first | rfl | exact jcat_rf _) : J M h pc (x0 :: x1 :: x2 :: x3 :: x4 :: x5 :: y :: r) (v :: st) := by
  obtain ⟨K1, h1, R1, X1, p, l, e, R, s, m, args, below, meth, c⟩ := M
  obtain ⟨⟨rfl, rfl, rfl, rfl, rfl⟩, hx, hb, hml, hown, hr, hlk, hts, F, hW, hR, hs0, hb0, hnm, htab⟩ := X
  intro H locs la hH hlo hla hg
  cases v with
  | null => exact lv_astoreN hx hb hd  hla.has (by show (6 : Nat) < _; simp) rfl (fun la' h' => k H locs la' hH hlo (jl.st1 (ls := x0 :: x1 :: x2 :: x3 :: x4 :: x5 :: y :: r) (x0 :: x1 :: x2 :: x3 :: x4 :: x5 :: some (.null) :: r) rfl h' (by
      intro j w hj
      match j, hj with
      | 0, hj => exact Or.inr ⟨by decide, hj, fun q => absurd q (by decide)⟩
      | 1, hj => exact Or.inr ⟨by decide, hj, fun q => absurd q (by decide)⟩
      | 2, hj => exact Or.inr ⟨by decide, hj, fun q => absurd q (by decide)⟩
      | 3, hj => exact Or.inr ⟨by decide, hj, fun q => absurd q (by decide)⟩
      | 4, hj => exact Or.inr ⟨by decide, hj, fun q => absurd q (by decide)⟩
      | 5, hj => exact Or.inr ⟨by decide, hj, fun _ => jcat_ne hc (Option.some.inj hj)⟩
      | 6, hj => exact Or.inl ⟨rfl, (Option.some.inj (Option.some.inj hj)).symm⟩
      | j + 7, hj => exact Or.inr ⟨by omega, hj, fun q => absurd q (by omega)⟩)) hg)
  | ref a => exact lv_astore hx hb hd  hla.has (by show (6 : Nat) < _; simp) rfl (fun la' h' => k H locs la' hH hlo (jl.st1 (ls := x0 :: x1 :: x2 :: x3 :: x4 :: x5 :: y :: r) (x0 :: x1 :: x2 :: x3 :: x4 :: x5 :: some (.ref a) :: r) rfl h' (by
      intro j w hj
      match j, hj with
      | 0, hj => exact Or.inr ⟨by decide, hj, fun q => absurd q (by decide)⟩
      | 1, hj => exact Or.inr ⟨by decide, hj, fun q => absurd q (by decide)⟩
      | 2, hj => exact Or.inr ⟨by decide, hj, fun q => absurd q (by decide)⟩
      | 3, hj => exact Or.inr ⟨by decide, hj, fun q => absurd q (by decide)⟩
      | 4, hj => exact Or.inr ⟨by decide, hj, fun q => absurd q (by decide)⟩
      | 5, hj => exact Or.inr ⟨by decide, hj, fun _ => jcat_ne hc (Option.some.inj hj)⟩
      | 6, hj => exact Or.inl ⟨rfl, (Option.some.inj (Option.some.inj hj)).symm⟩
      | j + 7, hj => exact Or.inr ⟨by omega, hj, fun q => absurd q (by omega)⟩)) hg)
  | _ => cases hv
theorem J.iinc6 {x0 x1 x2 x3 x4 x5 : Option Value} {r : List (Option Value)} {x : Int32} {n : Int} {d : Int32} (X : JX M K l0 cc own nL ret nm hh lv h0 QR QX) (hd : decode cc pc = .ok (.iinc 6 n, 3)) (he : Int32.ofInt n = d) (k : J M h (pc + 3) (x0 :: x1 :: x2 :: x3 :: x4 :: x5 :: some (.int (x + d)) :: r) st) (hc : jcat x5 = true := by first | rfl | exact jcat_rf _) : J M h pc (x0 :: x1 :: x2 :: x3 :: x4 :: x5 :: some (.int x) :: r) st := by
  obtain ⟨K1, h1, R1, X1, p, l, e, R, s, m, args, below, meth, c⟩ := M
  obtain ⟨⟨rfl, rfl, rfl, rfl, rfl⟩, hx, hb, hml, hown, hr, hlk, hts, F, hW, hR, hs0, hb0, hnm, htab⟩ := X
  intro H locs la hH hlo hla hg
  subst he
  obtain ⟨p0, hp0⟩ := List.mem_iff_getElem?.mp (jlv_mem.mpr (show (x0 :: x1 :: x2 :: x3 :: x4 :: x5 :: some (.int x) :: r)[6]? = some (some (Value.int x)) from rfl))
  exact lv_iinc hx hb hd hla.has hp0 rfl (by simp) rfl (fun la' h' => k H locs la' hH hlo (jl.st1 (ls := x0 :: x1 :: x2 :: x3 :: x4 :: x5 :: some (.int x) :: r) (x0 :: x1 :: x2 :: x3 :: x4 :: x5 :: some (.int (x + Int32.ofInt n)) :: r) rfl h' (by
    intro j w hj
    match j, hj with
    | 0, hj => exact Or.inr ⟨by decide, hj, fun q => absurd q (by decide)⟩
    | 1, hj => exact Or.inr ⟨by decide, hj, fun q => absurd q (by decide)⟩
    | 2, hj => exact Or.inr ⟨by decide, hj, fun q => absurd q (by decide)⟩
    | 3, hj => exact Or.inr ⟨by decide, hj, fun q => absurd q (by decide)⟩
    | 4, hj => exact Or.inr ⟨by decide, hj, fun q => absurd q (by decide)⟩
    | 5, hj => exact Or.inr ⟨by decide, hj, fun _ => jcat_ne hc (Option.some.inj hj)⟩
    | 6, hj => exact Or.inl ⟨rfl, (Option.some.inj (Option.some.inj hj)).symm⟩
    | j + 7, hj => exact Or.inr ⟨by omega, hj, fun q => absurd q (by omega)⟩)) hg)
theorem J.lstore6 {x0 x1 x2 x3 x4 x5 : Option Value} {r : List (Option Value)} {v : Int64} {y z : Option Value} (X : JX M K l0 cc own nL ret nm hh lv h0 QR QX) (hd : decode cc pc = .ok (.lstore 6, 2)) (k : J M h (pc + 2) (x0 :: x1 :: x2 :: x3 :: x4 :: x5 :: some (.long v) :: none :: r) st) (hc : jcat x5 = true := by first | rfl | exact jcat_rf _) : J M h pc (x0 :: x1 :: x2 :: x3 :: x4 :: x5 :: y :: z :: r) (.long v :: st) := by
  obtain ⟨K1, h1, R1, X1, p, l, e, R, s, m, args, below, meth, c⟩ := M
  obtain ⟨⟨rfl, rfl, rfl, rfl, rfl⟩, hx, hb, hml, hown, hr, hlk, hts, F, hW, hR, hs0, hb0, hnm, htab⟩ := X
  intro H locs la hH hlo hla hg
  exact lv_lstore hx hb hd  hla.has (by show (6 : Nat) + 1 < _; simp) rfl (fun la' h' => k H locs la' hH hlo (jl.st2 (ls := x0 :: x1 :: x2 :: x3 :: x4 :: x5 :: y :: z :: r) (x0 :: x1 :: x2 :: x3 :: x4 :: x5 :: some (.long v) :: none :: r) rfl h' (by
    intro j w hj
    match j, hj with
    | 0, hj => exact Or.inr ⟨by decide, by decide, hj, fun q => absurd q (by decide)⟩
    | 1, hj => exact Or.inr ⟨by decide, by decide, hj, fun q => absurd q (by decide)⟩
    | 2, hj => exact Or.inr ⟨by decide, by decide, hj, fun q => absurd q (by decide)⟩
    | 3, hj => exact Or.inr ⟨by decide, by decide, hj, fun q => absurd q (by decide)⟩
    | 4, hj => exact Or.inr ⟨by decide, by decide, hj, fun q => absurd q (by decide)⟩
    | 5, hj => exact Or.inr ⟨by decide, by decide, hj, fun _ => jcat_ne hc (Option.some.inj hj)⟩
    | 6, hj => exact Or.inl ⟨rfl, (Option.some.inj (Option.some.inj hj)).symm⟩
    | 7, hj => cases hj
    | j + 8, hj => exact Or.inr ⟨by omega, by omega, hj, fun q => absurd q (by omega)⟩)) hg)
theorem J.iload7 {x0 x1 x2 x3 x4 x5 x6 : Option Value} {r : List (Option Value)} {v : Int32} (X : JX M K l0 cc own nL ret nm hh lv h0 QR QX) (hd : decode cc pc = .ok (.iload 7, 2)) (k : J M h (pc + 2) (x0 :: x1 :: x2 :: x3 :: x4 :: x5 :: x6 :: some (.int v) :: r) (.int v :: st))  : J M h pc (x0 :: x1 :: x2 :: x3 :: x4 :: x5 :: x6 :: some (.int v) :: r) st := by
  obtain ⟨K1, h1, R1, X1, p, l, e, R, s, m, args, below, meth, c⟩ := M
  obtain ⟨⟨rfl, rfl, rfl, rfl, rfl⟩, hx, hb, hml, hown, hr, hlk, hts, F, hW, hR, hs0, hb0, hnm, htab⟩ := X
  intro H locs la hH hlo hla hg
  exact lv_iload hx hb hd  (hla.2.2 7 _ rfl) (k H locs la hH hlo hla hg)
theorem J.lload7 {x0 x1 x2 x3 x4 x5 x6 : Option Value} {r : List (Option Value)} {v : Int64} (X : JX M K l0 cc own nL ret nm hh lv h0 QR QX) (hd : decode cc pc = .ok (.lload 7, 2)) (k : J M h (pc + 2) (x0 :: x1 :: x2 :: x3 :: x4 :: x5 :: x6 :: some (.long v) :: r) (.long v :: st))  : J M h pc (x0 :: x1 :: x2 :: x3 :: x4 :: x5 :: x6 :: some (.long v) :: r) st := by
  obtain ⟨K1, h1, R1, X1, p, l, e, R, s, m, args, below, meth, c⟩ := M
  obtain ⟨⟨rfl, rfl, rfl, rfl, rfl⟩, hx, hb, hml, hown, hr, hlk, hts, F, hW, hR, hs0, hb0, hnm, htab⟩ := X
  intro H locs la hH hlo hla hg
  exact lv_lload hx hb hd  (hla.2.2 7 _ rfl) (k H locs la hH hlo hla hg)
theorem J.aload7 {x0 x1 x2 x3 x4 x5 x6 : Option Value} {r : List (Option Value)} {v : Value} (X : JX M K l0 cc own nL ret nm hh lv h0 QR QX) (hd : decode cc pc = .ok (.aload 7, 2)) (k : J M h (pc + 2) (x0 :: x1 :: x2 :: x3 :: x4 :: x5 :: x6 :: some (v) :: r) (v :: st)) (hv : jref v = true := by first | rfl | exact jref_rf _) : J M h pc (x0 :: x1 :: x2 :: x3 :: x4 :: x5 :: x6 :: some (v) :: r) st := by
  obtain ⟨K1, h1, R1, X1, p, l, e, R, s, m, args, below, meth, c⟩ := M
  obtain ⟨⟨rfl, rfl, rfl, rfl, rfl⟩, hx, hb, hml, hown, hr, hlk, hts, F, hW, hR, hs0, hb0, hnm, htab⟩ := X
  intro H locs la hH hlo hla hg
  cases v with
  | null => exact lv_aloadN hx hb hd  (hla.2.2 7 _ rfl) (k H locs la hH hlo hla hg)
  | ref a => exact lv_aload hx hb hd  (hla.2.2 7 _ rfl) (k H locs la hH hlo hla hg)
  | _ => cases hv
theorem J.istore7 {x0 x1 x2 x3 x4 x5 x6 : Option Value} {r : List (Option Value)} {v : Int32} {y : Option Value} (X : JX M K l0 cc own nL ret nm hh lv h0 QR QX) (hd : decode cc pc = .ok (.istore 7, 2)) (k : J M h (pc + 2) (x0 :: x1 :: x2 :: x3 :: x4 :: x5 :: x6 :: some (.int v) :: r) st)  (hc : jcat x6 = true := by first | rfl | exact jcat_rf _) : J M h pc (x0 :: x1 :: x2 :: x3 :: x4 :: x5 :: x6 :: y :: r) (.int v :: st) := by
  obtain ⟨K1, h1, R1, X1, p, l, e, R, s, m, args, below, meth, c⟩ := M
  obtain ⟨⟨rfl, rfl, rfl, rfl, rfl⟩, hx, hb, hml, hown, hr, hlk, hts, F, hW, hR, hs0, hb0, hnm, htab⟩ := X
  intro H locs la hH hlo hla hg
  exact lv_istore hx hb hd  hla.has (by show (7 : Nat) < _; simp) rfl (fun la' h' => k H locs la' hH hlo (jl.st1 (ls := x0 :: x1 :: x2 :: x3 :: x4 :: x5 :: x6 :: y :: r) (x0 :: x1 :: x2 :: x3 :: x4 :: x5 :: x6 :: some (.int v) :: r) rfl h' (by
    intro j w hj
    match j, hj with
    | 0, hj => exact Or.inr ⟨by decide, hj, fun q => absurd q (by decide)⟩
    | 1, hj => exact Or.inr ⟨by decide, hj, fun q => absurd q (by decide)⟩
    | 2, hj => exact Or.inr ⟨by decide, hj, fun q => absurd q (by decide)⟩
    | 3, hj => exact Or.inr ⟨by decide, hj, fun q => absurd q (by decide)⟩
    | 4, hj => exact Or.inr ⟨by decide, hj, fun q => absurd q (by decide)⟩
    | 5, hj => exact Or.inr ⟨by decide, hj, fun q => absurd q (by decide)⟩
    | 6, hj => exact Or.inr ⟨by decide, hj, fun _ => jcat_ne hc (Option.some.inj hj)⟩
    | 7, hj => exact Or.inl ⟨rfl, (Option.some.inj (Option.some.inj hj)).symm⟩
    | j + 8, hj => exact Or.inr ⟨by omega, hj, fun q => absurd q (by omega)⟩)) hg)
theorem J.astore7 {x0 x1 x2 x3 x4 x5 x6 : Option Value} {r : List (Option Value)} {v : Value} {y : Option Value} (X : JX M K l0 cc own nL ret nm hh lv h0 QR QX) (hd : decode cc pc = .ok (.astore 7, 2)) (k : J M h (pc + 2) (x0 :: x1 :: x2 :: x3 :: x4 :: x5 :: x6 :: some (v) :: r) st) (hv : jref v = true := by first | rfl | exact jref_rf _) (hc : jcat x6 = true := by first | rfl | exact jcat_rf _) : J M h pc (x0 :: x1 :: x2 :: x3 :: x4 :: x5 :: x6 :: y :: r) (v :: st) := by
  obtain ⟨K1, h1, R1, X1, p, l, e, R, s, m, args, below, meth, c⟩ := M
  obtain ⟨⟨rfl, rfl, rfl, rfl, rfl⟩, hx, hb, hml, hown, hr, hlk, hts, F, hW, hR, hs0, hb0, hnm, htab⟩ := X
  intro H locs la hH hlo hla hg
  cases v with
  | null => exact lv_astoreN hx hb hd  hla.has (by show (7 : Nat) < _; simp) rfl (fun la' h' => k H locs la' hH hlo (jl.st1 (ls := x0 :: x1 :: x2 :: x3 :: x4 :: x5 :: x6 :: y :: r) (x0 :: x1 :: x2 :: x3 :: x4 :: x5 :: x6 :: some (.null) :: r) rfl h' (by
      intro j w hj
      match j, hj with
      | 0, hj => exact Or.inr ⟨by decide, hj, fun q => absurd q (by decide)⟩
      | 1, hj => exact Or.inr ⟨by decide, hj, fun q => absurd q (by decide)⟩
      | 2, hj => exact Or.inr ⟨by decide, hj, fun q => absurd q (by decide)⟩
      | 3, hj => exact Or.inr ⟨by decide, hj, fun q => absurd q (by decide)⟩
      | 4, hj => exact Or.inr ⟨by decide, hj, fun q => absurd q (by decide)⟩
      | 5, hj => exact Or.inr ⟨by decide, hj, fun q => absurd q (by decide)⟩
      | 6, hj => exact Or.inr ⟨by decide, hj, fun _ => jcat_ne hc (Option.some.inj hj)⟩
      | 7, hj => exact Or.inl ⟨rfl, (Option.some.inj (Option.some.inj hj)).symm⟩
      | j + 8, hj => exact Or.inr ⟨by omega, hj, fun q => absurd q (by omega)⟩)) hg)
  | ref a => exact lv_astore hx hb hd  hla.has (by show (7 : Nat) < _; simp) rfl (fun la' h' => k H locs la' hH hlo (jl.st1 (ls := x0 :: x1 :: x2 :: x3 :: x4 :: x5 :: x6 :: y :: r) (x0 :: x1 :: x2 :: x3 :: x4 :: x5 :: x6 :: some (.ref a) :: r) rfl h' (by
      intro j w hj
      match j, hj with
      | 0, hj => exact Or.inr ⟨by decide, hj, fun q => absurd q (by decide)⟩
      | 1, hj => exact Or.inr ⟨by decide, hj, fun q => absurd q (by decide)⟩
      | 2, hj => exact Or.inr ⟨by decide, hj, fun q => absurd q (by decide)⟩
      | 3, hj => exact Or.inr ⟨by decide, hj, fun q => absurd q (by decide)⟩
      | 4, hj => exact Or.inr ⟨by decide, hj, fun q => absurd q (by decide)⟩
      | 5, hj => exact Or.inr ⟨by decide, hj, fun q => absurd q (by decide)⟩
      | 6, hj => exact Or.inr ⟨by decide, hj, fun _ => jcat_ne hc (Option.some.inj hj)⟩
      | 7, hj => exact Or.inl ⟨rfl, (Option.some.inj (Option.some.inj hj)).symm⟩
      | j + 8, hj => exact Or.inr ⟨by omega, hj, fun q => absurd q (by omega)⟩)) hg)
  | _ => cases hv
theorem J.iinc7 {x0 x1 x2 x3 x4 x5 x6 : Option Value} {r : List (Option Value)} {x : Int32} {n : Int} {d : Int32} (X : JX M K l0 cc own nL ret nm hh lv h0 QR QX) (hd : decode cc pc = .ok (.iinc 7 n, 3)) (he : Int32.ofInt n = d) (k : J M h (pc + 3) (x0 :: x1 :: x2 :: x3 :: x4 :: x5 :: x6 :: some (.int (x + d)) :: r) st) (hc : jcat x6 = true := by first | rfl | exact jcat_rf _) : J M h pc (x0 :: x1 :: x2 :: x3 :: x4 :: x5 :: x6 :: some (.int x) :: r) st := by
  obtain ⟨K1, h1, R1, X1, p, l, e, R, s, m, args, below, meth, c⟩ := M
  obtain ⟨⟨rfl, rfl, rfl, rfl, rfl⟩, hx, hb, hml, hown, hr, hlk, hts, F, hW, hR, hs0, hb0, hnm, htab⟩ := X
  intro H locs la hH hlo hla hg
  subst he
  obtain ⟨p0, hp0⟩ := List.mem_iff_getElem?.mp (jlv_mem.mpr (show (x0 :: x1 :: x2 :: x3 :: x4 :: x5 :: x6 :: some (.int x) :: r)[7]? = some (some (Value.int x)) from rfl))
  exact lv_iinc hx hb hd hla.has hp0 rfl (by simp) rfl (fun la' h' => k H locs la' hH hlo (jl.st1 (ls := x0 :: x1 :: x2 :: x3 :: x4 :: x5 :: x6 :: some (.int x) :: r) (x0 :: x1 :: x2 :: x3 :: x4 :: x5 :: x6 :: some (.int (x + Int32.ofInt n)) :: r) rfl h' (by
    intro j w hj
    match j, hj with
    | 0, hj => exact Or.inr ⟨by decide, hj, fun q => absurd q (by decide)⟩
    | 1, hj => exact Or.inr ⟨by decide, hj, fun q => absurd q (by decide)⟩
    | 2, hj => exact Or.inr ⟨by decide, hj, fun q => absurd q (by decide)⟩
    | 3, hj => exact Or.inr ⟨by decide, hj, fun q => absurd q (by decide)⟩
    | 4, hj => exact Or.inr ⟨by decide, hj, fun q => absurd q (by decide)⟩
    | 5, hj => exact Or.inr ⟨by decide, hj, fun q => absurd q (by decide)⟩
    | 6, hj => exact Or.inr ⟨by decide, hj, fun _ => jcat_ne hc (Option.some.inj hj)⟩
    | 7, hj => exact Or.inl ⟨rfl, (Option.some.inj (Option.some.inj hj)).symm⟩
    | j + 8, hj => exact Or.inr ⟨by omega, hj, fun q => absurd q (by omega)⟩)) hg)
theorem J.lstore7 {x0 x1 x2 x3 x4 x5 x6 : Option Value} {r : List (Option Value)} {v : Int64} {y z : Option Value} (X : JX M K l0 cc own nL ret nm hh lv h0 QR QX) (hd : decode cc pc = .ok (.lstore 7, 2)) (k : J M h (pc + 2) (x0 :: x1 :: x2 :: x3 :: x4 :: x5 :: x6 :: some (.long v) :: none :: r) st) (hc : jcat x6 = true := by first | rfl | exact jcat_rf _) : J M h pc (x0 :: x1 :: x2 :: x3 :: x4 :: x5 :: x6 :: y :: z :: r) (.long v :: st) := by
  obtain ⟨K1, h1, R1, X1, p, l, e, R, s, m, args, below, meth, c⟩ := M
  obtain ⟨⟨rfl, rfl, rfl, rfl, rfl⟩, hx, hb, hml, hown, hr, hlk, hts, F, hW, hR, hs0, hb0, hnm, htab⟩ := X
  intro H locs la hH hlo hla hg
  exact lv_lstore hx hb hd  hla.has (by show (7 : Nat) + 1 < _; simp) rfl (fun la' h' => k H locs la' hH hlo (jl.st2 (ls := x0 :: x1 :: x2 :: x3 :: x4 :: x5 :: x6 :: y :: z :: r) (x0 :: x1 :: x2 :: x3 :: x4 :: x5 :: x6 :: some (.long v) :: none :: r) rfl h' (by
    intro j w hj
    match j, hj with
    | 0, hj => exact Or.inr ⟨by decide, by decide, hj, fun q => absurd q (by decide)⟩
    | 1, hj => exact Or.inr ⟨by decide, by decide, hj, fun q => absurd q (by decide)⟩
    | 2, hj => exact Or.inr ⟨by decide, by decide, hj, fun q => absurd q (by decide)⟩
    | 3, hj => exact Or.inr ⟨by decide, by decide, hj, fun q => absurd q (by decide)⟩
    | 4, hj => exact Or.inr ⟨by decide, by decide, hj, fun q => absurd q (by decide)⟩
    | 5, hj => exact Or.inr ⟨by decide, by decide, hj, fun q => absurd q (by decide)⟩
    | 6, hj => exact Or.inr ⟨by decide, by decide, hj, fun _ => jcat_ne hc (Option.some.inj hj)⟩
    | 7, hj => exact Or.inl ⟨rfl, (Option.some.inj (Option.some.inj hj)).symm⟩
    | 8, hj => cases hj
    | j + 9, hj => exact Or.inr ⟨by omega, by omega, hj, fun q => absurd q (by omega)⟩)) hg)
theorem J.iload8 {x0 x1 x2 x3 x4 x5 x6 x7 : Option Value} {r : List (Option Value)} {v : Int32} (X : JX M K l0 cc own nL ret nm hh lv h0 QR QX) (hd : decode cc pc = .ok (.iload 8, 2)) (k : J M h (pc + 2) (x0 :: x1 :: x2 :: x3 :: x4 :: x5 :: x6 :: x7 :: some (.int v) :: r) (.int v :: st))  : J M h pc (x0 :: x1 :: x2 :: x3 :: x4 :: x5 :: x6 :: x7 :: some (.int v) :: r) st := by
  obtain ⟨K1, h1, R1, X1, p, l, e, R, s, m, args, below, meth, c⟩ := M
  obtain ⟨⟨rfl, rfl, rfl, rfl, rfl⟩, hx, hb, hml, hown, hr, hlk, hts, F, hW, hR, hs0, hb0, hnm, htab⟩ := X
  intro H locs la hH hlo hla hg
  exact lv_iload hx hb hd  (hla.2.2 8 _ rfl) (k H locs la hH hlo hla hg)
theorem J.lload8 {x0 x1 x2 x3 x4 x5 x6 x7 : Option Value} {r : List (Option Value)} {v : Int64} (X : JX M K l0 cc own nL ret nm hh lv h0 QR QX) (hd : decode cc pc = .ok (.lload 8, 2)) (k : J M h (pc + 2) (x0 :: x1 :: x2 :: x3 :: x4 :: x5 :: x6 :: x7 :: some (.long v) :: r) (.long v :: st))  : J M h pc (x0 :: x1 :: x2 :: x3 :: x4 :: x5 :: x6 :: x7 :: some (.long v) :: r) st := by
  obtain ⟨K1, h1, R1, X1, p, l, e, R, s, m, args, below, meth, c⟩ := M
  obtain ⟨⟨rfl, rfl, rfl, rfl, rfl⟩, hx, hb, hml, hown, hr, hlk, hts, F, hW, hR, hs0, hb0, hnm, htab⟩ := X
  intro H locs la hH hlo hla hg
  exact lv_lload hx hb hd  (hla.2.2 8 _ rfl) (k H locs la hH hlo hla hg)
theorem J.aload8 {x0 x1 x2 x3 x4 x5 x6 x7 : Option Value} {r : List (Option Value)} {v : Value} (X : JX M K l0 cc own nL ret nm hh lv h0 QR QX) (hd : decode cc pc = .ok (.aload 8, 2)) (k : J M h (pc + 2) (x0 :: x1 :: x2 :: x3 :: x4 :: x5 :: x6 :: x7 :: some (v) :: r) (v :: st)) (hv : jref v = true := by first | rfl | exact jref_rf _) : J M h pc (x0 :: x1 :: x2 :: x3 :: x4 :: x5 :: x6 :: x7 :: some (v) :: r) st := by
  obtain ⟨K1, h1, R1, X1, p, l, e, R, s, m, args, below, meth, c⟩ := M
  obtain ⟨⟨rfl, rfl, rfl, rfl, rfl⟩, hx, hb, hml, hown, hr, hlk, hts, F, hW, hR, hs0, hb0, hnm, htab⟩ := X
  intro H locs la hH hlo hla hg
  cases v with
  | null => exact lv_aloadN hx hb hd  (hla.2.2 8 _ rfl) (k H locs la hH hlo hla hg)
  | ref a => exact lv_aload hx hb hd  (hla.2.2 8 _ rfl) (k H locs la hH hlo hla hg)
  | _ => cases hv
theorem J.istore8 {x0 x1 x2 x3 x4 x5 x6 x7 : Option Value} {r : List (Option Value)} {v : Int32} {y : Option Value} (X : JX M K l0 cc own nL ret nm hh lv h0 QR QX) (hd : decode cc pc = .ok (.istore 8, 2)) (k : J M h (pc + 2) (x0 :: x1 :: x2 :: x3 :: x4 :: x5 :: x6 :: x7 :: some (.int v) :: r) st)  (hc : jcat x7 = true := by first | rfl | exact jcat_rf _) : J M h pc (x0 :: x1 :: x2 :: x3 :: x4 :: x5 :: x6 :: x7 :: y :: r) (.int v :: st) := by
  obtain ⟨K1, h1, R1, X1, p, l, e, R, s, m, args, below, meth, c⟩ := M
  obtain ⟨⟨rfl, rfl, rfl, rfl, rfl⟩, hx, hb, hml, hown, hr, hlk, hts, F, hW, hR, hs0, hb0, hnm, htab⟩ := X
  intro H locs la hH hlo hla hg
  exact lv_istore hx hb hd  hla.has (by show (8 : Nat) < _; simp) rfl (fun la' h' => k H locs la' hH hlo (jl.st1 (ls := x0 :: x1 :: x2 :: x3 :: x4 :: x5 :: x6 :: x7 :: y :: r) (x0 :: x1 :: x2 :: x3 :: x4 :: x5 :: x6 :: x7 :: some (.int v) :: r) rfl h' (by
    intro j w hj
    match j, hj with
    | 0, hj => exact Or.inr ⟨by decide, hj, fun q => absurd q (by decide)⟩
    | 1, hj => exact Or.inr ⟨by decide, hj, fun q => absurd q (by decide)⟩
    | 2, hj => exact Or.inr ⟨by decide, hj, fun q => absurd q (by decide)⟩
    | 3, hj => exact Or.inr ⟨by decide, hj, fun q => absurd q (by decide)⟩
    | 4, hj => exact Or.inr ⟨by decide, hj, fun q => absurd q (by decide)⟩
    | 5, hj => exact Or.inr ⟨by decide, hj, fun q => absurd q (by decide)⟩
    | 6, hj => exact Or.inr ⟨by decide, hj, fun q => absurd q (by decide)⟩
    | 7, hj => exact Or.inr ⟨by decide, hj, fun _ => jcat_ne hc (Option.some.inj hj)⟩
    | 8, hj => exact Or.inl ⟨rfl, (Option.some.inj (Option.some.inj hj)).symm⟩
    | j + 9, hj => exact Or.inr ⟨by omega, hj, fun q => absurd q (by omega)⟩)) hg)
theorem J.astore8 {x0 x1 x2 x3 x4 x5 x6 x7 : Option Value} {r : List (Option Value)} {v : Value} {y : Option Value} (X : JX M K l0 cc own nL ret nm hh lv h0 QR QX) (hd : decode cc pc = .ok (.astore 8, 2)) (k : J M h (pc + 2) (x0 :: x1 :: x2 :: x3 :: x4 :: x5 :: x6 :: x7 :: some (v) :: r) st) (hv : jref v = true := by first | rfl | exact jref_rf _) (hc : jcat x7 = true := by first | rfl | exact jcat_rf _) : J M h pc (x0 :: x1 :: x2 :: x3 :: x4 :: x5 :: x6 :: x7 :: y :: r) (v :: st) := by
  obtain ⟨K1, h1, R1, X1, p, l, e, R, s, m, args, below, meth, c⟩ := M
  obtain ⟨⟨rfl, rfl, rfl, rfl, rfl⟩, hx, hb, hml, hown, hr, hlk, hts, F, hW, hR, hs0, hb0, hnm, htab⟩ := X
  intro H locs la hH hlo hla hg
  cases v with
  | null => exact lv_astoreN hx hb hd  hla.has (by show (8 : Nat) < _; simp) rfl (fun la' h' => k H locs la' hH hlo (jl.st1 (ls := x0 :: x1 :: x2 :: x3 :: x4 :: x5 :: x6 :: x7 :: y :: r) (x0 :: x1 :: x2 :: x3 :: x4 :: x5 :: x6 :: x7 :: some (.null) :: r) rfl h' (by
      intro j w hj
      match j, hj with
      | 0, hj => exact Or.inr ⟨by decide, hj, fun q => absurd q (by decide)⟩
      | 1, hj => exact Or.inr ⟨by decide, hj, fun q => absurd q (by decide)⟩
      | 2, hj => exact Or.inr ⟨by decide, hj, fun q => absurd q (by decide)⟩
      | 3, hj => exact Or.inr ⟨by decide, hj, fun q => absurd q (by decide)⟩
      | 4, hj => exact Or.inr ⟨by decide, hj, fun q => absurd q (by decide)⟩
      | 5, hj => exact Or.inr ⟨by decide, hj, fun q => absurd q (by decide)⟩
      | 6, hj => exact Or.inr ⟨by decide, hj, fun q => absurd q (by decide)⟩
      | 7, hj => exact Or.inr ⟨by decide, hj, fun _ => jcat_ne hc (Option.some.inj hj)⟩
      | 8, hj => exact Or.inl ⟨rfl, (Option.some.inj (Option.some.inj hj)).symm⟩
      | j + 9, hj => exact Or.inr ⟨by omega, hj, fun q => absurd q (by omega)⟩)) hg)
  | ref a => exact lv_astore hx hb hd  hla.has (by show (8 : Nat) < _; simp) rfl (fun la' h' => k H locs la' hH hlo (jl.st1 (ls := x0 :: x1 :: x2 :: x3 :: x4 :: x5 :: x6 :: x7 :: y :: r) (x0 :: x1 :: x2 :: x3 :: x4 :: x5 :: x6 :: x7 :: some (.ref a) :: r) rfl h' (by
      intro j w hj
      match j, hj with
      | 0, hj => exact Or.inr ⟨by decide, hj, fun q => absurd q (by decide)⟩
      | 1, hj => exact Or.inr ⟨by decide, hj, fun q => absurd q (by decide)⟩
      | 2, hj => exact Or.inr ⟨by decide, hj, fun q => absurd q (by decide)⟩
      | 3, hj => exact Or.inr ⟨by decide, hj, fun q => absurd q (by decide)⟩
      | 4, hj => exact Or.inr ⟨by decide, hj, fun q => absurd q (by decide)⟩
      | 5, hj => exact Or.inr ⟨by decide, hj, fun q => absurd q (by decide)⟩
      | 6, hj => exact Or.inr ⟨by decide, hj, fun q => absurd q (by decide)⟩
      | 7, hj => exact Or.inr ⟨by decide, hj, fun _ => jcat_ne hc (Option.some.inj hj)⟩
      | 8, hj => exact Or.inl ⟨rfl, (Option.some.inj (Option.some.inj hj)).symm⟩
      | j + 9, hj => exact Or.inr ⟨by omega, hj, fun q => absurd q (by omega)⟩)) hg)
  | _ => cases hv
theorem J.iinc8 {x0 x1 x2 x3 x4 x5 x6 x7 : Option Value} {r : List (Option Value)} {x : Int32} {n : Int} {d : Int32} (X : JX M K l0 cc own nL ret nm hh lv h0 QR QX) (hd : decode cc pc = .ok (.iinc 8 n, 3)) (he : Int32.ofInt n = d) (k : J M h (pc + 3) (x0 :: x1 :: x2 :: x3 :: x4 :: x5 :: x6 :: x7 :: some (.int (x + d)) :: r) st) (hc : jcat x7 = true := by first | rfl | exact jcat_rf _) : J M h pc (x0 :: x1 :: x2 :: x3 :: x4 :: x5 :: x6 :: x7 :: some (.int x) :: r) st := by
  obtain ⟨K1, h1, R1, X1, p, l, e, R, s, m, args, below, meth, c⟩ := M
  obtain ⟨⟨rfl, rfl, rfl, rfl, rfl⟩, hx, hb, hml, hown, hr, hlk, hts, F, hW, hR, hs0, hb0, hnm, htab⟩ := X
  intro H locs la hH hlo hla hg
  subst he
  obtain ⟨p0, hp0⟩ := List.mem_iff_getElem?.mp (jlv_mem.mpr (show (x0 :: x1 :: x2 :: x3 :: x4 :: x5 :: x6 :: x7 :: some (.int x) :: r)[8]? = some (some (Value.int x)) from rfl))
  exact lv_iinc hx hb hd hla.has hp0 rfl (by simp) rfl (fun la' h' => k H locs la' hH hlo (jl.st1 (ls := x0 :: x1 :: x2 :: x3 :: x4 :: x5 :: x6 :: x7 :: some (.int x) :: r) (x0 :: x1 :: x2 :: x3 :: x4 :: x5 :: x6 :: x7 :: some (.int (x + Int32.ofInt n)) :: r) rfl h' (by
    intro j w hj
    match j, hj with
    | 0, hj => exact Or.inr ⟨by decide, hj, fun q => absurd q (by decide)⟩
    | 1, hj => exact Or.inr ⟨by decide, hj, fun q => absurd q (by decide)⟩
    | 2, hj => exact Or.inr ⟨by decide, hj, fun q => absurd q (by decide)⟩
    | 3, hj => exact Or.inr ⟨by decide, hj, fun q => absurd q (by decide)⟩
    | 4, hj => exact Or.inr ⟨by decide, hj, fun q => absurd q (by decide)⟩
    | 5, hj => exact Or.inr ⟨by decide, hj, fun q => absurd q (by decide)⟩
    | 6, hj => exact Or.inr ⟨by decide, hj, fun q => absurd q (by decide)⟩
    | 7, hj => exact Or.inr ⟨by decide, hj, fun _ => jcat_ne hc (Option.some.inj hj)⟩
    | 8, hj => exact Or.inl ⟨rfl, (Option.some.inj (Option.some.inj hj)).symm⟩
    | j + 9, hj => exact Or.inr ⟨by omega, hj, fun q => absurd q (by omega)⟩)) hg)
theorem J.lstore8 {x0 x1 x2 x3 x4 x5 x6 x7 : Option Value} {r : List (Option Value)} {v : Int64} {y z : Option Value} (X : JX M K l0 cc own nL ret nm hh lv h0 QR QX) (hd : decode cc pc = .ok (.lstore 8, 2)) (k : J M h (pc + 2) (x0 :: x1 :: x2 :: x3 :: x4 :: x5 :: x6 :: x7 :: some (.long v) :: none :: r) st) (hc : jcat x7 = true := by first | rfl | exact jcat_rf _) : J M h pc (x0 :: x1 :: x2 :: x3 :: x4 :: x5 :: x6 :: x7 :: y :: z :: r) (.long v :: st) := by
  obtain ⟨K1, h1, R1, X1, p, l, e, R, s, m, args, below, meth, c⟩ := M
  obtain ⟨⟨rfl, rfl, rfl, rfl, rfl⟩, hx, hb, hml, hown, hr, hlk, hts, F, hW, hR, hs0, hb0, hnm, htab⟩ := X
  intro H locs la hH hlo hla hg
  exact lv_lstore hx hb hd  hla.has (by show (8 : Nat) + 1 < _; simp) rfl (fun la' h' => k H locs la' hH hlo (jl.st2 (ls := x0 :: x1 :: x2 :: x3 :: x4 :: x5 :: x6 :: x7 :: y :: z :: r) (x0 :: x1 :: x2 :: x3 :: x4 :: x5 :: x6 :: x7 :: some (.long v) :: none :: r) rfl h' (by
    intro j w hj
    match j, hj with
    | 0, hj => exact Or.inr ⟨by decide, by decide, hj, fun q => absurd q (by decide)⟩
    | 1, hj => exact Or.inr ⟨by decide, by decide, hj, fun q => absurd q (by decide)⟩
    | 2, hj => exact Or.inr ⟨by decide, by decide, hj, fun q => absurd q (by decide)⟩
    | 3, hj => exact Or.inr ⟨by decide, by decide, hj, fun q => absurd q (by decide)⟩
    | 4, hj => exact Or.inr ⟨by decide, by decide, hj, fun q => absurd q (by decide)⟩
    | 5, hj => exact Or.inr ⟨by decide, by decide, hj, fun q => absurd q (by decide)⟩
    | 6, hj => exact Or.inr ⟨by decide, by decide, hj, fun q => absurd q (by decide)⟩
    | 7, hj => exact Or.inr ⟨by decide, by decide, hj, fun _ => jcat_ne hc (Option.some.inj hj)⟩
    | 8, hj => exact Or.inl ⟨rfl, (Option.some.inj (Option.some.inj hj)).symm⟩
    | 9, hj => cases hj
    | j + 10, hj => exact Or.inr ⟨by omega, by omega, hj, fun q => absurd q (by omega)⟩)) hg)
theorem J.iload9 {x0 x1 x2 x3 x4 x5 x6 x7 x8 : Option Value} {r : List (Option Value)} {v : Int32} (X : JX M K l0 cc own nL ret nm hh lv h0 QR QX) (hd : decode cc pc = .ok (.iload 9, 2)) (k : J M h (pc + 2) (x0 :: x1 :: x2 :: x3 :: x4 :: x5 :: x6 :: x7 :: x8 :: some (.int v) :: r) (.int v :: st))  : J M h pc (x0 :: x1 :: x2 :: x3 :: x4 :: x5 :: x6 :: x7 :: x8 :: some (.int v) :: r) st := by
  obtain ⟨K1, h1, R1, X1, p, l, e, R, s, m, args, below, meth, c⟩ := M
  obtain ⟨⟨rfl, rfl, rfl, rfl, rfl⟩, hx, hb, hml, hown, hr, hlk, hts, F, hW, hR, hs0, hb0, hnm, htab⟩ := X
  intro H locs la hH hlo hla hg
  exact lv_iload hx hb hd  (hla.2.2 9 _ rfl) (k H locs la hH hlo hla hg)
theorem J.lload9 {x0 x1 x2 x3 x4 x5 x6 x7 x8 : Option Value} {r : List (Option Value)} {v : Int64} (X : JX M K l0 cc own nL ret nm hh lv h0 QR QX) (hd : decode cc pc = .ok (.lload 9, 2)) (k : J M h (pc + 2) (x0 :: x1 :: x2 :: x3 :: x4 :: x5 :: x6 :: x7 :: x8 :: some (.long v) :: r) (.long v :: st))  : J M h pc (x0 :: x1 :: x2 :: x3 :: x4 :: x5 :: x6 :: x7 :: x8 :: some (.long v) :: r) st := by
  obtain ⟨K1, h1, R1, X1, p, l, e, R, s, m, args, below, meth, c⟩ := M
  obtain ⟨⟨rfl, rfl, rfl, rfl, rfl⟩, hx, hb, hml, hown, hr, hlk, hts, F, hW, hR, hs0, hb0, hnm, htab⟩ := X
  intro H locs la hH hlo hla hg
  exact lv_lload hx hb hd  (hla.2.2 9 _ rfl) (k H locs la hH hlo hla hg)
theorem J.aload9 {x0 x1 x2 x3 x4 x5 x6 x7 x8 : Option Value} {r : List (Option Value)} {v : Value} (X : JX M K l0 cc own nL ret nm hh lv h0 QR QX) (hd : decode cc pc = .ok (.aload 9, 2)) (k : J M h (pc + 2) (x0 :: x1 :: x2 :: x3 :: x4 :: x5 :: x6 :: x7 :: x8 :: some (v) :: r) (v :: st)) (hv : jref v = true := by first | rfl | exact jref_rf _) : J M h pc (x0 :: x1 :: x2 :: x3 :: x4 :: x5 :: x6 :: x7 :: x8 :: some (v) :: r) st := by
  obtain ⟨K1, h1, R1, X1, p, l, e, R, s, m, args, below, meth, c⟩ := M
  obtain ⟨⟨rfl, rfl, rfl, rfl, rfl⟩, hx, hb, hml, hown, hr, hlk, hts, F, hW, hR, hs0, hb0, hnm, htab⟩ := X
  intro H locs la hH hlo hla hg
  cases v with
  | null => exact lv_aloadN hx hb hd  (hla.2.2 9 _ rfl) (k H locs la hH hlo hla hg)
  | ref a => exact lv_aload hx hb hd  (hla.2.2 9 _ rfl) (k H locs la hH hlo hla hg)
  | _ => cases hv
theorem J.istore9 {x0 x1 x2 x3 x4 x5 x6 x7 x8 : Option Value} {r : List (Option Value)} {v : Int32} {y : Option Value} (X : JX M K l0 cc own nL ret nm hh lv h0 QR QX) (hd : decode cc pc = .ok (.istore 9, 2)) (k : J M h (pc + 2) (x0 :: x1 :: x2 :: x3 :: x4 :: x5 :: x6 :: x7 :: x8 :: some (.int v) :: r) st)  (hc : jcat x8 = true := by first | rfl | exact jcat_rf _) : J M h pc (x0 :: x1 :: x2 :: x3 :: x4 :: x5 :: x6 :: x7 :: x8 :: y :: r) (.int v :: st) := by
  obtain ⟨K1, h1, R1, X1, p, l, e, R, s, m, args, below, meth, c⟩ := M
  obtain ⟨⟨rfl, rfl, rfl, rfl, rfl⟩, hx, hb, hml, hown, hr, hlk, hts, F, hW, hR, hs0, hb0, hnm, htab⟩ := X
  intro H locs la hH hlo hla hg
  exact lv_istore hx hb hd  hla.has (by show (9 : Nat) < _; simp) rfl (fun la' h' => k H locs la' hH hlo (jl.st1 (ls := x0 :: x1 :: x2 :: x3 :: x4 :: x5 :: x6 :: x7 :: x8 :: y :: r) (x0 :: x1 :: x2 :: x3 :: x4 :: x5 :: x6 :: x7 :: x8 :: some (.int v) :: r) rfl h' (by
    intro j w hj
    match j, hj with
    | 0, hj => exact Or.inr ⟨by decide, hj, fun q => absurd q (by decide)⟩
    | 1, hj => exact Or.inr ⟨by decide, hj, fun q => absurd q (by decide)⟩
    | 2, hj => exact Or.inr ⟨by decide, hj, fun q => absurd q (by decide)⟩
    | 3, hj => exact Or.inr ⟨by decide, hj, fun q => absurd q (by decide)⟩
    | 4, hj => exact Or.inr ⟨by decide, hj, fun q => absurd q (by decide)⟩
    | 5, hj => exact Or.inr ⟨by decide, hj, fun q => absurd q (by decide)⟩
    | 6, hj => exact Or.inr ⟨by decide, hj, fun q => absurd q (by decide)⟩
    | 7, hj => exact Or.inr ⟨by decide, hj, fun q => absurd q (by decide)⟩
    | 8, hj => exact Or.inr ⟨by decide, hj, fun _ => jcat_ne hc (Option.some.inj hj)⟩
    | 9, hj => exact Or.inl ⟨rfl, (Option.some.inj (Option.some.inj hj)).symm⟩
    | j + 10, hj => exact Or.inr ⟨by omega, hj, fun q => absurd q (by omega)⟩)) hg)
theorem J.astore9 {x0 x1 x2 x3 x4 x5 x6 x7 x8 : Option Value} {r : List (Option Value)} {v : Value} {y : Option Value} (X : JX M K l0 cc own nL ret nm hh lv h0 QR QX) (hd : decode cc pc = .ok (.astore 9, 2)) (k : J M h (pc + 2) (x0 :: x1 :: x2 :: x3 :: x4 :: x5 :: x6 :: x7 :: x8 :: some (v) :: r) st) (hv : jref v = true := by first | rfl | exact jref_rf _) (hc : jcat x8 = true := by first | rfl | exact jcat_rf _) : J M h pc (x0 :: x1 :: x2 :: x3 :: x4 :: x5 :: x6 :: x7 :: x8 :: y :: r) (v :: st) := by
  obtain ⟨K1, h1, R1, X1, p, l, e, R, s, m, args, below, meth, c⟩ := M
  obtain ⟨⟨rfl, rfl, rfl, rfl, rfl⟩, hx, hb, hml, hown, hr, hlk, hts, F, hW, hR, hs0, hb0, hnm, htab⟩ := X
  intro H locs la hH hlo hla hg
  cases v with
  | null => exact lv_astoreN hx hb hd  hla.has (by show (9 : Nat) < _; simp) rfl (fun la' h' => k H locs la' hH hlo (jl.st1 (ls := x0 :: x1 :: x2 :: x3 :: x4 :: x5 :: x6 :: x7 :: x8 :: y :: r) (x0 :: x1 :: x2 :: x3 :: x4 :: x5 :: x6 :: x7 :: x8 :: some (.null) :: r) rfl h' (by
      intro j w hj
      match j, hj with
      | 0, hj => exact Or.inr ⟨by decide, hj, fun q => absurd q (by decide)⟩
      | 1, hj => exact Or.inr ⟨by decide, hj, fun q => absurd q (by decide)⟩
      | 2, hj => exact Or.inr ⟨by decide, hj, fun q => absurd q (by decide)⟩
      | 3, hj => exact Or.inr ⟨by decide, hj, fun q => absurd q (by decide)⟩
      | 4, hj => exact Or.inr ⟨by decide, hj, fun q => absurd q (by decide)⟩
      | 5, hj => exact Or.inr ⟨by decide, hj, fun q => absurd q (by decide)⟩
      | 6, hj => exact Or.inr ⟨by decide, hj, fun q => absurd q (by decide)⟩
      | 7, hj => exact Or.inr ⟨by decide, hj, fun q => absurd q (by decide)⟩
      | 8, hj => exact Or.inr ⟨by decide, hj, fun _ => jcat_ne hc (Option.some.inj hj)⟩
      | 9, hj => exact Or.inl ⟨rfl, (Option.some.inj (Option.some.inj hj)).symm⟩
      | j + 10, hj => exact Or.inr ⟨by omega, hj, fun q => absurd q (by omega)⟩)) hg)
  | ref a => exact lv_astore hx hb hd  hla.has (by show (9 : Nat) < _; simp) rfl (fun la' h' => k H locs la' hH hlo (jl.st1 (ls := x0 :: x1 :: x2 :: x3 :: x4 :: x5 :: x6 :: x7 :: x8 :: y :: r) (x0 :: x1 :: x2 :: x3 :: x4 :: x5 :: x6 :: x7 :: x8 :: some (.ref a) :: r) rfl h' (by
      intro j w hj
      match j, hj with
      | 0, hj => exact Or.inr ⟨by decide, hj, fun q => absurd q (by decide)⟩
      | 1, hj => exact Or.inr ⟨by decide, hj, fun q => absurd q (by decide)⟩
      | 2, hj => exact Or.inr ⟨by decide, hj, fun q => absurd q (by decide)⟩
      | 3, hj => exact Or.inr ⟨by decide, hj, fun q => absurd q (by decide)⟩
      | 4, hj => exact Or.inr ⟨by decide, hj, fun q => absurd q (by decide)⟩
      | 5, hj => exact Or.inr ⟨by decide, hj, fun q => absurd q (by decide)⟩
      | 6, hj => exact Or.inr ⟨by decide, hj, fun q => absurd q (by decide)⟩
      | 7, hj => exact Or.inr ⟨by decide, hj, fun q => absurd q (by decide)⟩
      | 8, hj => exact Or.inr ⟨by decide, hj, fun _ => jcat_ne hc (Option.some.inj hj)⟩
      | 9, hj => exact Or.inl ⟨rfl, (Option.some.inj (Option.some.inj hj)).symm⟩
      | j + 10, hj => exact Or.inr ⟨by omega, hj, fun q => absurd q (by omega)⟩)) hg)
  | _ => cases hv
theorem J.iinc9 {x0 x1 x2 x3 x4 x5 x6 x7 x8 : Option Value} {r : List (Option Value)} {x : Int32} {n : Int} {d : Int32} (X : JX M K l0 cc own nL ret nm hh lv h0 QR QX) (hd : decode cc pc = .ok (.iinc 9 n, 3)) (he : Int32.ofInt n = d) (k : J M h (pc + 3) (x0 :: x1 :: x2 :: x3 :: x4 :: x5 :: x6 :: x7 :: x8 :: some (.int (x + d)) :: r) st) (hc : jcat x8 = true := by first | rfl | exact jcat_rf _) : J M h pc (x0 :: x1 :: x2 :: x3 :: x4 :: x5 :: x6 :: x7 :: x8 :: some (.int x) :: r) st := by
  obtain ⟨K1, h1, R1, X1, p, l, e, R, s, m, args, below, meth, c⟩ := M
  obtain ⟨⟨rfl, rfl, rfl, rfl, rfl⟩, hx, hb, hml, hown, hr, hlk, hts, F, hW, hR, hs0, hb0, hnm, htab⟩ := X
  intro H locs la hH hlo hla hg
  subst he
  obtain ⟨p0, hp0⟩ := List.mem_iff_getElem?.mp (jlv_mem.mpr (show (x0 :: x1 :: x2 :: x3 :: x4 :: x5 :: x6 :: x7 :: x8 :: some (.int x) :: r)[9]? = some (some (Value.int x)) from rfl))
  exact lv_iinc hx hb hd hla.has hp0 rfl (by simp) rfl (fun la' h' => k H locs la' hH hlo (jl.st1 (ls := x0 :: x1 :: x2 :: x3 :: x4 :: x5 :: x6 :: x7 :: x8 :: some (.int x) :: r) (x0 :: x1 :: x2 :: x3 :: x4 :: x5 :: x6 :: x7 :: x8 :: some (.int (x + Int32.ofInt n)) :: r) rfl h' (by
    intro j w hj
    match j, hj with
    | 0, hj => exact Or.inr ⟨by decide, hj, fun q => absurd q (by decide)⟩
    | 1, hj => exact Or.inr ⟨by decide, hj, fun q => absurd q (by decide)⟩
    | 2, hj => exact Or.inr ⟨by decide, hj, fun q => absurd q (by decide)⟩
    | 3, hj => exact Or.inr ⟨by decide, hj, fun q => absurd q (by decide)⟩
    | 4, hj => exact Or.inr ⟨by decide, hj, fun q => absurd q (by decide)⟩
    | 5, hj => exact Or.inr ⟨by decide, hj, fun q => absurd q (by decide)⟩
    | 6, hj => exact Or.inr ⟨by decide, hj, fun q => absurd q (by decide)⟩
    | 7, hj => exact Or.inr ⟨by decide, hj, fun q => absurd q (by decide)⟩
    | 8, hj => exact Or.inr ⟨by decide, hj, fun _ => jcat_ne hc (Option.some.inj hj)⟩
    | 9, hj => exact Or.inl ⟨rfl, (Option.some.inj (Option.some.inj hj)).symm⟩
    | j + 10, hj => exact Or.inr ⟨by omega, hj, fun q => absurd q (by omega)⟩)) hg)
theorem J.lstore9 {x0 x1 x2 x3 x4 x5 x6 x7 x8 : Option Value} {r : List (Option Value)} {v : Int64} {y z : Option Value} (X : JX M K l0 cc own nL ret nm hh lv h0 QR QX) (hd : decode cc pc = .ok (.lstore 9, 2)) (k : J M h (pc + 2) (x0 :: x1 :: x2 :: x3 :: x4 :: x5 :: x6 :: x7 :: x8 :: some (.long v) :: none :: r) st) (hc : jcat x8 = true := by first | rfl | exact jcat_rf _) : J M h pc (x0 :: x1 :: x2 :: x3 :: x4 :: x5 :: x6 :: x7 :: x8 :: y :: z :: r) (.long v :: st) := by
  obtain ⟨K1, h1, R1, X1, p, l, e, R, s, m, args, below, meth, c⟩ := M
  obtain ⟨⟨rfl, rfl, rfl, rfl, rfl⟩, hx, hb, hml, hown, hr, hlk, hts, F, hW, hR, hs0, hb0, hnm, htab⟩ := X
  intro H locs la hH hlo hla hg
  exact lv_lstore hx hb hd  hla.has (by show (9 : Nat) + 1 < _; simp) rfl (fun la' h' => k H locs la' hH hlo (jl.st2 (ls := x0 :: x1 :: x2 :: x3 :: x4 :: x5 :: x6 :: x7 :: x8 :: y :: z :: r) (x0 :: x1 :: x2 :: x3 :: x4 :: x5 :: x6 :: x7 :: x8 :: some (.long v) :: none :: r) rfl h' (by
    intro j w hj
    match j, hj with
    | 0, hj => exact Or.inr ⟨by decide, by decide, hj, fun q => absurd q (by decide)⟩
    | 1, hj => exact Or.inr ⟨by decide, by decide, hj, fun q => absurd q (by decide)⟩
    | 2, hj => exact Or.inr ⟨by decide, by decide, hj, fun q => absurd q (by decide)⟩
    | 3, hj => exact Or.inr ⟨by decide, by decide, hj, fun q => absurd q (by decide)⟩
    | 4, hj => exact Or.inr ⟨by decide, by decide, hj, fun q => absurd q (by decide)⟩
    | 5, hj => exact Or.inr ⟨by decide, by decide, hj, fun q => absurd q (by decide)⟩
    | 6, hj => exact Or.inr ⟨by decide, by decide, hj, fun q => absurd q (by decide)⟩
    | 7, hj => exact Or.inr ⟨by decide, by decide, hj, fun q => absurd q (by decide)⟩
    | 8, hj => exact Or.inr ⟨by decide, by decide, hj, fun _ => jcat_ne hc (Option.some.inj hj)⟩
    | 9, hj => exact Or.inl ⟨rfl, (Option.some.inj (Option.some.inj hj)).symm⟩
    | 10, hj => cases hj
    | j + 11, hj => exact Or.inr ⟨by omega, by omega, hj, fun q => absurd q (by omega)⟩)) hg)
theorem J.iload10 {x0 x1 x2 x3 x4 x5 x6 x7 x8 x9 : Option Value} {r : List (Option Value)} {v : Int32} (X : JX M K l0 cc own nL ret nm hh lv h0 QR QX) (hd : decode cc pc = .ok (.iload 10, 2)) (k : J M h (pc + 2) (x0 :: x1 :: x2 :: x3 :: x4 :: x5 :: x6 :: x7 :: x8 :: x9 :: some (.int v) :: r) (.int v :: st))  : J M h pc (x0 :: x1 :: x2 :: x3 :: x4 :: x5 :: x6 :: x7 :: x8 :: x9 :: some (.int v) :: r) st := by
  obtain ⟨K1, h1, R1, X1, p, l, e, R, s, m, args, below, meth, c⟩ := M
  obtain ⟨⟨rfl, rfl, rfl, rfl, rfl⟩, hx, hb, hml, hown, hr, hlk, hts, F, hW, hR, hs0, hb0, hnm, htab⟩ := X
  intro H locs la hH hlo hla hg
  exact lv_iload hx hb hd  (hla.2.2 10 _ rfl) (k H locs la hH hlo hla hg)
theorem J.lload10 {x0 x1 x2 x3 x4 x5 x6 x7 x8 x9 : Option Value} {r : List (Option Value)} {v : Int64} (X : JX M K l0 cc own nL ret nm hh lv h0 QR QX) (hd : decode cc pc = .ok (.lload 10, 2)) (k : J M h (pc + 2) (x0 :: x1 :: x2 :: x3 :: x4 :: x5 :: x6 :: x7 :: x8 :: x9 :: some (.long v) :: r) (.long v :: st))  : J M h pc (x0 :: x1 :: x2 :: x3 :: x4 :: x5 :: x6 :: x7 :: x8 :: x9 :: some (.long v) :: r) st := by
  obtain ⟨K1, h1, R1, X1, p, l, e, R, s, m, args, below, meth, c⟩ := M
  obtain ⟨⟨rfl, rfl, rfl, rfl, rfl⟩, hx, hb, hml, hown, hr, hlk, hts, F, hW, hR, hs0, hb0, hnm, htab⟩ := X
  intro H locs la hH hlo hla hg
  exact lv_lload hx hb hd  (hla.2.2 10 _ rfl) (k H locs la hH hlo hla hg)
theorem J.aload10 {x0 x1 x2 x3 x4 x5 x6 x7 x8 x9 : Option Value} {r : List (Option Value)} {v : Value} (X : JX M K l0 cc own nL ret nm hh lv h0 QR QX) (hd : decode cc pc = .ok (.aload 10, 2)) (k : J M h (pc + 2) (x0 :: x1 :: x2 :: x3 :: x4 :: x5 :: x6 :: x7 :: x8 :: x9 :: some (v) :: r) (v :: st)) (hv : jref v = true := by first | rfl | exact jref_rf _) : J M h pc (x0 :: x1 :: x2 :: x3 :: x4 :: x5 :: x6 :: x7 :: x8 :: x9 :: some (v) :: r) st := by
  obtain ⟨K1, h1, R1, X1, p, l, e, R, s, m, args, below, meth, c⟩ := M
  obtain ⟨⟨rfl, rfl, rfl, rfl, rfl⟩, hx, hb, hml, hown, hr, hlk, hts, F, hW, hR, hs0, hb0, hnm, htab⟩ := X
  intro H locs la hH hlo hla hg
  cases v with
  | null => exact lv_aloadN hx hb hd  (hla.2.2 10 _ rfl) (k H locs la hH hlo hla hg)
  | ref a => exact lv_aload hx hb hd  (hla.2.2 10 _ rfl) (k H locs la hH hlo hla hg)
  | _ => cases hv
theorem J.istore10 {x0 x1 x2 x3 x4 x5 x6 x7 x8 x9 : Option Value} {r : List (Option Value)} {v : Int32} {y : Option Value} (X : JX M K l0 cc own nL ret nm hh lv h0 QR QX) (hd : decode cc pc = .ok (.istore 10, 2)) (k : J M h (pc + 2) (x0 :: x1 :: x2 :: x3 :: x4 :: x5 :: x6 :: x7 :: x8 :: x9 :: some (.int v) :: r) st)  (hc : jcat x9 = true := by first | rfl | exact jcat_rf _) : J M h pc (x0 :: x1 :: x2 :: x3 :: x4 :: x5 :: x6 :: x7 :: x8 :: x9 :: y :: r) (.int v :: st) := by
  obtain ⟨K1, h1, R1, X1, p, l, e, R, s, m, args, below, meth, c⟩ := M
  obtain ⟨⟨rfl, rfl, rfl, rfl, rfl⟩, hx, hb, hml, hown, hr, hlk, hts, F, hW, hR, hs0, hb0, hnm, htab⟩ := X
  intro H locs la hH hlo hla hg
  exact lv_istore hx hb hd  hla.has (by show (10 : Nat) < _; simp) rfl (fun la' h' => k H locs la' hH hlo (jl.st1 (ls := x0 :: x1 :: x2 :: x3 :: x4 :: x5 :: x6 :: x7 :: x8 :: x9 :: y :: r) (x0 :: x1 :: x2 :: x3 :: x4 :: x5 :: x6 :: x7 :: x8 :: x9 :: some (.int v) :: r) rfl h' (by
    intro j w hj
    match j, hj with
    | 0, hj => exact Or.inr ⟨by decide, hj, fun q => absurd q (by decide)⟩
    | 1, hj => exact Or.inr ⟨by decide, hj, fun q => absurd q (by decide)⟩
    | 2, hj => exact Or.inr ⟨by decide, hj, fun q => absurd q (by decide)⟩
    | 3, hj => exact Or.inr ⟨by decide, hj, fun q => absurd q (by decide)⟩
    | 4, hj => exact Or.inr ⟨by decide, hj, fun q => absurd q (by decide)⟩
    | 5, hj => exact Or.inr ⟨by decide, hj, fun q => absurd q (by decide)⟩
    | 6, hj => exact Or.inr ⟨by decide, hj, fun q => absurd q (by decide)⟩
    | 7, hj => exact Or.inr ⟨by decide, hj, fun q => absurd q (by decide)⟩
    | 8, hj => exact Or.inr ⟨by decide, hj, fun q => absurd q (by decide)⟩
    | 9, hj => exact Or.inr ⟨by decide, hj, fun _ => jcat_ne hc (Option.some.inj hj)⟩
    | 10, hj => exact Or.inl ⟨rfl, (Option.some.inj (Option.some.inj hj)).symm⟩
    | j + 11, hj => exact Or.inr ⟨by omega, hj, fun q => absurd q (by omega)⟩)) hg)
theorem J.astore10 {x0 x1 x2 x3 x4 x5 x6 x7 x8 x9 : Option Value} {r : List (Option Value)} {v : Value} {y : Option Value} (X : JX M K l0 cc own nL ret nm hh lv h0 QR QX) (hd : decode cc pc = .ok (.astore 10, 2)) (k : J M h (pc + 2) (x0 :: x1 :: x2 :: x3 :: x4 :: x5 :: x6 :: x7 :: x8 :: x9 :: some (v) :: r) st) (hv : jref v = true := by first | rfl | exact jref_rf _) (hc : jcat x9 = true := by first | rfl | exact jcat_rf _) : J M h pc (x0 :: x1 :: x2 :: x3 :: x4 :: x5 :: x6 :: x7 :: x8 :: x9 :: y :: r) (v :: st) := by
  obtain ⟨K1, h1, R1, X1, p, l, e, R, s, m, args, below, meth, c⟩ := M
  obtain ⟨⟨rfl, rfl, rfl, rfl, rfl⟩, hx, hb, hml, hown, hr, hlk, hts, F, hW, hR, hs0, hb0, hnm, htab⟩ := X
  intro H locs la hH hlo hla hg
  cases v with
  | null => exact lv_astoreN hx hb hd  hla.has (by show (10 : Nat) < _; simp) rfl (fun la' h' => k H locs la' hH hlo (jl.st1 (ls := x0 :: x1 :: x2 :: x3 :: x4 :: x5 :: x6 :: x7 :: x8 :: x9 :: y :: r) (x0 :: x1 :: x2 :: x3 :: x4 :: x5 :: x6 :: x7 :: x8 :: x9 :: some (.null) :: r) rfl h' (by
      intro j w hj
      match j, hj with
      | 0, hj => exact Or.inr ⟨by decide, hj, fun q => absurd q (by decide)⟩
      | 1, hj => exact Or.inr ⟨by decide, hj, fun q => absurd q (by decide)⟩
      | 2, hj => exact Or.inr ⟨by decide, hj, fun q => absurd q (by decide)⟩
      | 3, hj => exact Or.inr ⟨by decide, hj, fun q => absurd q (by decide)⟩
      | 4, hj => exact Or.inr ⟨by decide, hj, fun q => absurd q (by decide)⟩
      | 5, hj => exact Or.inr ⟨by decide, hj, fun q => absurd q (by decide)⟩
      | 6, hj => exact Or.inr ⟨by decide, hj, fun q => absurd q (by decide)⟩
      | 7, hj => exact Or.inr ⟨by decide, hj, fun q => absurd q (by decide)⟩
      | 8, hj => exact Or.inr ⟨by decide, hj, fun q => absurd q (by decide)⟩
      | 9, hj => exact Or.inr ⟨by decide, hj, fun _ => jcat_ne hc (Option.some.inj hj)⟩
      | 10, hj => exact Or.inl ⟨rfl, (Option.some.inj (Option.some.inj hj)).symm⟩
      | j + 11, hj => exact Or.inr ⟨by omega, hj, fun q => absurd q (by omega)⟩)) hg)
  | ref a => exact lv_astore hx hb hd  hla.has (by show (10 : Nat) < _; simp) rfl (fun la' h' => k H locs la' hH hlo (jl.st1 (ls := x0 :: x1 :: x2 :: x3 :: x4 :: x5 :: x6 :: x7 :: x8 :: x9 :: y :: r) (x0 :: x1 :: x2 :: x3 :: x4 :: x5 :: x6 :: x7 :: x8 :: x9 :: some (.ref a) :: r) rfl h' (by
      intro j w hj
      match j, hj with
      | 0, hj => exact Or.inr ⟨by decide, hj, fun q => absurd q (by decide)⟩
      | 1, hj => exact Or.inr ⟨by decide, hj, fun q => absurd q (by decide)⟩
      | 2, hj => exact Or.inr ⟨by decide, hj, fun q => absurd q (by decide)⟩
      | 3, hj => exact Or.inr ⟨by decide, hj, fun q => absurd q (by decide)⟩
      | 4, hj => exact Or.inr ⟨by decide, hj, fun q => absurd q (by decide)⟩
      | 5, hj => exact Or.inr ⟨by decide, hj, fun q => absurd q (by decide)⟩
      | 6, hj => exact Or.inr ⟨by decide, hj, fun q => absurd q (by decide)⟩
      | 7, hj => exact Or.inr ⟨by decide, hj, fun q => absurd q (by decide)⟩
      | 8, hj => exact Or.inr ⟨by decide, hj, fun q => absurd q (by decide)⟩
      | 9, hj => exact Or.inr ⟨by decide, hj, fun _ => jcat_ne hc (Option.some.inj hj)⟩
      | 10, hj => exact Or.inl ⟨rfl, (Option.some.inj (Option.some.inj hj)).symm⟩
      | j + 11, hj => exact Or.inr ⟨by omega, hj, fun q => absurd q (by omega)⟩)) hg)
  | _ => cases hv
theorem J.iinc10 {x0 x1 x2 x3 x4 x5 x6 x7 x8 x9 : Option Value} {r : List (Option Value)} {x : Int32} {n : Int} {d : Int32} (X : JX M K l0 cc own nL ret nm hh lv h0 QR QX) (hd : decode cc pc = .ok (.iinc 10 n, 3)) (he : Int32.ofInt n = d) (k : J M h (pc + 3) (x0 :: x1 :: x2 :: x3 :: x4 :: x5 :: x6 :: x7 :: x8 :: x9 :: some (.int (x + d)) :: r) st) (hc : jcat x9 = true := by first | rfl | exact jcat_rf _) : J M h pc (x0 :: x1 :: x2 :: x3 :: x4 :: x5 :: x6 :: x7 :: x8 :: x9 :: some (.int x) :: r) st := by
  obtain ⟨K1, h1, R1, X1, p, l, e, R, s, m, args, below, meth, c⟩ := M
  obtain ⟨⟨rfl, rfl, rfl, rfl, rfl⟩, hx, hb, hml, hown, hr, hlk, hts, F, hW, hR, hs0, hb0, hnm, htab⟩ := X
  intro H locs la hH hlo hla hg
  subst he
  obtain ⟨p0, hp0⟩ := List.mem_iff_getElem?.mp (jlv_mem.mpr (show (x0 :: x1 :: x2 :: x3 :: x4 :: x5 :: x6 :: x7 :: x8 :: x9 :: some (.int x) :: r)[10]? = some (some (Value.int x)) from rfl))
  exact lv_iinc hx hb hd hla.has hp0 rfl (by simp) rfl (fun la' h' => k H locs la' hH hlo (jl.st1 (ls := x0 :: x1 :: x2 :: x3 :: x4 :: x5 :: x6 :: x7 :: x8 :: x9 :: some (.int x) :: r) (x0 :: x1 :: x2 :: x3 :: x4 :: x5 :: x6 :: x7 :: x8 :: x9 :: some (.int (x + Int32.ofInt n)) :: r) rfl h' (by
    intro j w hj
    match j, hj with
    | 0, hj => exact Or.inr ⟨by decide, hj, fun q => absurd q (by decide)⟩
    | 1, hj => exact Or.inr ⟨by decide, hj, fun q => absurd q (by decide)⟩
    | 2, hj => exact Or.inr ⟨by decide, hj, fun q => absurd q (by decide)⟩
    | 3, hj => exact Or.inr ⟨by decide, hj, fun q => absurd q (by decide)⟩
    | 4, hj => exact Or.inr ⟨by decide, hj, fun q => absurd q (by decide)⟩
    | 5, hj => exact Or.inr ⟨by decide, hj, fun q => absurd q (by decide)⟩
    | 6, hj => exact Or.inr ⟨by decide, hj, fun q => absurd q (by decide)⟩
    | 7, hj => exact Or.inr ⟨by decide, hj, fun q => absurd q (by decide)⟩
    | 8, hj => exact Or.inr ⟨by decide, hj, fun q => absurd q (by decide)⟩
    | 9, hj => exact Or.inr ⟨by decide, hj, fun _ => jcat_ne hc (Option.some.inj hj)⟩
    | 10, hj => exact Or.inl ⟨rfl, (Option.some.inj (Option.some.inj hj)).symm⟩
    | j + 11, hj => exact Or.inr ⟨by omega, hj, fun q => absurd q (by omega)⟩)) hg)
theorem J.lstore10 {x0 x1 x2 x3 x4 x5 x6 x7 x8 x9 : Option Value} {r : List (Option Value)} {v : Int64} {y z : Option Value} (X : JX M K l0 cc own nL ret nm hh lv h0 QR QX) (hd : decode cc pc = .ok (.lstore 10, 2)) (k : J M h (pc + 2) (x0 :: x1 :: x2 :: x3 :: x4 :: x5 :: x6 :: x7 :: x8 :: x9 :: some (.long v) :: none :: r) st) (hc : jcat x9 = true := by first | rfl | exact jcat_rf _) : J M h pc (x0 :: x1 :: x2 :: x3 :: x4 :: x5 :: x6 :: x7 :: x8 :: x9 :: y :: z :: r) (.long v :: st) := by
  obtain ⟨K1, h1, R1, X1, p, l, e, R, s, m, args, below, meth, c⟩ := M
  obtain ⟨⟨rfl, rfl, rfl, rfl, rfl⟩, hx, hb, hml, hown, hr, hlk, hts, F, hW, hR, hs0, hb0, hnm, htab⟩ := X
  intro H locs la hH hlo hla hg
  exact lv_lstore hx hb hd  hla.has (by show (10 : Nat) + 1 < _; simp) rfl (fun la' h' => k H locs la' hH hlo (jl.st2 (ls := x0 :: x1 :: x2 :: x3 :: x4 :: x5 :: x6 :: x7 :: x8 :: x9 :: y :: z :: r) (x0 :: x1 :: x2 :: x3 :: x4 :: x5 :: x6 :: x7 :: x8 :: x9 :: some (.long v) :: none :: r) rfl h' (by
    intro j w hj
    match j, hj with
    | 0, hj => exact Or.inr ⟨by decide, by decide, hj, fun q => absurd q (by decide)⟩
    | 1, hj => exact Or.inr ⟨by decide, by decide, hj, fun q => absurd q (by decide)⟩
    | 2, hj => exact Or.inr ⟨by decide, by decide, hj, fun q => absurd q (by decide)⟩
    | 3, hj => exact Or.inr ⟨by decide, by decide, hj, fun q => absurd q (by decide)⟩
    | 4, hj => exact Or.inr ⟨by decide, by decide, hj, fun q => absurd q (by decide)⟩
    | 5, hj => exact Or.inr ⟨by decide, by decide, hj, fun q => absurd q (by decide)⟩
    | 6, hj => exact Or.inr ⟨by decide, by decide, hj, fun q => absurd q (by decide)⟩
    | 7, hj => exact Or.inr ⟨by decide, by decide, hj, fun q => absurd q (by decide)⟩
    | 8, hj => exact Or.inr ⟨by decide, by decide, hj, fun q => absurd q (by decide)⟩
    | 9, hj => exact Or.inr ⟨by decide, by decide, hj, fun _ => jcat_ne hc (Option.some.inj hj)⟩
    | 10, hj => exact Or.inl ⟨rfl, (Option.some.inj (Option.some.inj hj)).symm⟩
    | 11, hj => cases hj
    | j + 12, hj => exact Or.inr ⟨by omega, by omega, hj, fun q => absurd q (by omega)⟩)) hg)
theorem J.iload11 {x0 x1 x2 x3 x4 x5 x6 x7 x8 x9 x10 : Option Value} {r : List (Option Value)} {v : Int32} (X : JX M K l0 cc own nL ret nm hh lv h0 QR QX) (hd : decode cc pc = .ok (.iload 11, 2)) (k : J M h (pc + 2) (x0 :: x1 :: x2 :: x3 :: x4 :: x5 :: x6 :: x7 :: x8 :: x9 :: x10 :: some (.int v) :: r) (.int v :: st))  : J M h pc (x0 :: x1 :: x2 :: x3 :: x4 :: x5 :: x6 :: x7 :: x8 :: x9 :: x10 :: some (.int v) :: r) st := by
  obtain ⟨K1, h1, R1, X1, p, l, e, R, s, m, args, below, meth, c⟩ := M
  obtain ⟨⟨rfl, rfl, rfl, rfl, rfl⟩, hx, hb, hml, hown, hr, hlk, hts, F, hW, hR, hs0, hb0, hnm, htab⟩ := X
  intro H locs la hH hlo hla hg
  exact lv_iload hx hb hd  (hla.2.2 11 _ rfl) (k H locs la hH hlo hla hg)
theorem J.lload11 {x0 x1 x2 x3 x4 x5 x6 x7 x8 x9 x10 : Option Value} {r : List (Option Value)} {v : Int64} (X : JX M K l0 cc own nL ret nm hh lv h0 QR QX) (hd : decode cc pc = .ok (.lload 11, 2)) (k : J M h (pc + 2) (x0 :: x1 :: x2 :: x3 :: x4 :: x5 :: x6 :: x7 :: x8 :: x9 :: x10 :: some (.long v) :: r) (.long v :: st))  : J M h pc (x0 :: x1 :: x2 :: x3 :: x4 :: x5 :: x6 :: x7 :: x8 :: x9 :: x10 :: some (.long v) :: r) st := by
  obtain ⟨K1, h1, R1, X1, p, l, e, R, s, m, args, below, meth, c⟩ := M
  obtain ⟨⟨rfl, rfl, rfl, rfl, rfl⟩, hx, hb, hml, hown, hr, hlk, hts, F, hW, hR, hs0, hb0, hnm, htab⟩ := X
  intro H locs la hH hlo hla hg
  exact lv_lload hx hb hd  (hla.2.2 11 _ rfl) (k H locs la hH hlo hla hg)
theorem J.aload11 {x0 x1 x2 x3 x4 x5 x6 x7 x8 x9 x10 : Option Value} {r : List (Option Value)} {v : Value} (X : JX M K l0 cc own nL ret nm hh lv h0 QR QX) (hd : decode cc pc = .ok (.aload 11, 2)) (k : J M h (pc + 2) (x0 :: x1 :: x2 :: x3 :: x4 :: x5 :: x6 :: x7 :: x8 :: x9 :: x10 :: some (v) :: r) (v :: st)) (hv : jref v = true := by first | rfl | exact jref_rf _) : J M h pc (x0 :: x1 :: x2 :: x3 :: x4 :: x5 :: x6 :: x7 :: x8 :: x9 :: x10 :: some (v) :: r) st := by
  obtain ⟨K1, h1, R1, X1, p, l, e, R, s, m, args, below, meth, c⟩ := M
  obtain ⟨⟨rfl, rfl, rfl, rfl, rfl⟩, hx, hb, hml, hown, hr, hlk, hts, F, hW, hR, hs0, hb0, hnm, htab⟩ := X
  intro H locs la hH hlo hla hg
  cases v with
  | null => exact lv_aloadN hx hb hd  (hla.2.2 11 _ rfl) (k H locs la hH hlo hla hg)
  | ref a => exact lv_aload hx hb hd  (hla.2.2 11 _ rfl) (k H locs la hH hlo hla hg)
  | _ => cases hv
theorem J.istore11 {x0 x1 x2 x3 x4 x5 x6 x7 x8 x9 x10 : Option Value} {r : List (Option Value)} {v : Int32} {y : Option Value} (X : JX M K l0 cc own nL ret nm hh lv h0 QR QX) (hd : decode cc pc = .ok (.istore 11, 2)) (k : J M h (pc + 2) (x0 :: x1 :: x2 :: x3 :: x4 :: x5 :: x6 :: x7 :: x8 :: x9 :: x10 :: some (.int v) :: r) st)  (hc : jcat x10 = true := by first | rfl | exact jcat_rf _) : J M h pc (x0 :: x1 :: x2 :: x3 :: x4 :: x5 :: x6 :: x7 :: x8 :: x9 :: x10 :: y :: r) (.int v :: st) := by
  obtain ⟨K1, h1, R1, X1, p, l, e, R, s, m, args, below, meth, c⟩ := M
  obtain ⟨⟨rfl, rfl, rfl, rfl, rfl⟩, hx, hb, hml, hown, hr, hlk, hts, F, hW, hR, hs0, hb0, hnm, htab⟩ := X
  intro H locs la hH hlo hla hg
  exact lv_istore hx hb hd  hla.has (by show (11 : Nat) < _; simp) rfl (fun la' h' => k H locs la' hH hlo (jl.st1 (ls := x0 :: x1 :: x2 :: x3 :: x4 :: x5 :: x6 :: x7 :: x8 :: x9 :: x10 :: y :: r) (x0 :: x1 :: x2 :: x3 :: x4 :: x5 :: x6 :: x7 :: x8 :: x9 :: x10 :: some (.int v) :: r) rfl h' (by
    intro j w hj
    match j, hj with
    | 0, hj => exact Or.inr ⟨by decide, hj, fun q => absurd q (by decide)⟩
    | 1, hj => exact Or.inr ⟨by decide, hj, fun q => absurd q (by decide)⟩
    | 2, hj => exact Or.inr ⟨by decide, hj, fun q => absurd q (by decide)⟩
    | 3, hj => exact Or.inr ⟨by decide, hj, fun q => absurd q (by decide)⟩
    | 4, hj => exact Or.inr ⟨by decide, hj, fun q => absurd q (by decide)⟩
    | 5, hj => exact Or.inr ⟨by decide, hj, fun q => absurd q (by decide)⟩
    | 6, hj => exact Or.inr ⟨by decide, hj, fun q => absurd q (by decide)⟩
    | 7, hj => exact Or.inr ⟨by decide, hj, fun q => absurd q (by decide)⟩
    | 8, hj => exact Or.inr ⟨by decide, hj, fun q => absurd q (by decide)⟩
    | 9, hj => exact Or.inr ⟨by decide, hj, fun q => absurd q (by decide)⟩
    | 10, hj => exact Or.inr ⟨by decide, hj, fun _ => jcat_ne hc (Option.some.inj hj)⟩
    | 11, hj => exact Or.inl ⟨rfl, (Option.some.inj (Option.some.inj hj)).symm⟩
    | j + 12, hj => exact Or.inr ⟨by omega, hj, fun q => absurd q (by omega)⟩)) hg)
theorem J.astore11 {x0 x1 x2 x3 x4 x5 x6 x7 x8 x9 x10 : Option Value} {r : List (Option Value)} {v : Value} {y : Option Value} (X : JX M K l0 cc own nL ret nm hh lv h0 QR QX) (hd : decode cc pc = .ok (.astore 11, 2)) (k : J M h (pc + 2) (x0 :: x1 :: x2 :: x3 :: x4 :: x5 :: x6 :: x7 :: x8 :: x9 :: x10 :: some (v) :: r) st) (hv : jref v = true := by first | rfl | exact jref_rf _) (hc : jcat x10 = true := by first | rfl | exact jcat_rf _) : J M h pc (x0 :: x1 :: x2 :: x3 :: x4 :: x5 :: x6 :: x7 :: x8 :: x9 :: x10 :: y :: r) (v :: st) := by
  obtain ⟨K1, h1, R1, X1, p, l, e, R, s, m, args, below, meth, c⟩ := M
  obtain ⟨⟨rfl, rfl, rfl, rfl, rfl⟩, hx, hb, hml, hown, hr, hlk, hts, F, hW, hR, hs0, hb0, hnm, htab⟩ := X
  intro H locs la hH hlo hla hg
  cases v with
  | null => exact lv_astoreN hx hb hd  hla.has (by show (11 : Nat) < _; simp) rfl (fun la' h' => k H locs la' hH hlo (jl.st1 (ls := x0 :: x1 :: x2 :: x3 :: x4 :: x5 :: x6 :: x7 :: x8 :: x9 :: x10 :: y :: r) (x0 :: x1 :: x2 :: x3 :: x4 :: x5 :: x6 :: x7 :: x8 :: x9 :: x10 :: some (.null) :: r) rfl h' (by
      intro j w hj
      match j, hj with
      | 0, hj => exact Or.inr ⟨by decide, hj, fun q => absurd q (by decide)⟩
      | 1, hj => exact Or.inr ⟨by decide, hj, fun q => absurd q (by decide)⟩
      | 2, hj => exact Or.inr ⟨by decide, hj, fun q => absurd q (by decide)⟩
      | 3, hj => exact Or.inr ⟨by decide, hj, fun q => absurd q (by decide)⟩
      | 4, hj => exact Or.inr ⟨by decide, hj, fun q => absurd q (by decide)⟩
      | 5, hj => exact Or.inr ⟨by decide, hj, fun q => absurd q (by decide)⟩
      | 6, hj => exact Or.inr ⟨by decide, hj, fun q => absurd q (by decide)⟩
      | 7, hj => exact Or.inr ⟨by decide, hj, fun q => absurd q (by decide)⟩
      | 8, hj => exact Or.inr ⟨by decide, hj, fun q => absurd q (by decide)⟩
      | 9, hj => exact Or.inr ⟨by decide, hj, fun q => absurd q (by decide)⟩
      | 10, hj => exact Or.inr ⟨by decide, hj, fun _ => jcat_ne hc (Option.some.inj hj)⟩
      | 11, hj => exact Or.inl ⟨rfl, (Option.some.inj (Option.some.inj hj)).symm⟩
      | j + 12, hj => exact Or.inr ⟨by omega, hj, fun q => absurd q (by omega)⟩)) hg)
  | ref a => exact lv_astore hx hb hd  hla.has (by show (11 : Nat) < _; simp) rfl (fun la' h' => k H locs la' hH hlo (jl.st1 (ls := x0 :: x1 :: x2 :: x3 :: x4 :: x5 :: x6 :: x7 :: x8 :: x9 :: x10 :: y :: r) (x0 :: x1 :: x2 :: x3 :: x4 :: x5 :: x6 :: x7 :: x8 :: x9 :: x10 :: some (.ref a) :: r) rfl h' (by
      intro j w hj
      match j, hj with
      | 0, hj => exact Or.inr ⟨by decide, hj, fun q => absurd q (by decide)⟩
      | 1, hj => exact Or.inr ⟨by decide, hj, fun q => absurd q (by decide)⟩
      | 2, hj => exact Or.inr ⟨by decide, hj, fun q => absurd q (by decide)⟩
      | 3, hj => exact Or.inr ⟨by decide, hj, fun q => absurd q (by decide)⟩
      | 4, hj => exact Or.inr ⟨by decide, hj, fun q => absurd q (by decide)⟩
      | 5, hj => exact Or.inr ⟨by decide, hj, fun q => absurd q (by decide)⟩
      | 6, hj => exact Or.inr ⟨by decide, hj, fun q => absurd q (by decide)⟩
      | 7, hj => exact Or.inr ⟨by decide, hj, fun q => absurd q (by decide)⟩
      | 8, hj => exact Or.inr ⟨by decide, hj, fun q => absurd q (by decide)⟩
      | 9, hj => exact Or.inr ⟨by decide, hj, fun q => absurd q (by decide)⟩
      | 10, hj => exact Or.inr ⟨by decide, hj, fun _ => jcat_ne hc (Option.some.inj hj)⟩
      | 11, hj => exact Or.inl ⟨rfl, (Option.some.inj (Option.some.inj hj)).symm⟩
      | j + 12, hj => exact Or.inr ⟨by omega, hj, fun q => absurd q (by omega)⟩)) hg)
  | _ => cases hv
theorem J.iinc11 {x0 x1 x2 x3 x4 x5 x6 x7 x8 x9 x10 : Option Value} {r : List (Option Value)} {x : Int32} {n : Int} {d : Int32} (X : JX M K l0 cc own nL ret nm hh lv h0 QR QX) (hd : decode cc pc = .ok (.iinc 11 n, 3)) (he : Int32.ofInt n = d) (k : J M h (pc + 3) (x0 :: x1 :: x2 :: x3 :: x4 :: x5 :: x6 :: x7 :: x8 :: x9 :: x10 :: some (.int (x + d)) :: r) st) (hc : jcat x10 = true := by first | rfl | exact jcat_rf _) : J M h pc (x0 :: x1 :: x2 :: x3 :: x4 :: x5 :: x6 :: x7 :: x8 :: x9 :: x10 :: some (.int x) :: r) st := by
  obtain ⟨K1, h1, R1, X1, p, l, e, R, s, m, args, below, meth, c⟩ := M
  obtain ⟨⟨rfl, rfl, rfl, rfl, rfl⟩, hx, hb, hml, hown, hr, hlk, hts, F, hW, hR, hs0, hb0, hnm, htab⟩ := X
  intro H locs la hH hlo hla hg
  subst he
  obtain ⟨p0, hp0⟩ := List.mem_iff_getElem?.mp (jlv_mem.mpr (show (x0 :: x1 :: x2 :: x3 :: x4 :: x5 :: x6 :: x7 :: x8 :: x9 :: x10 :: some (.int x) :: r)[11]? = some (some (Value.int x)) from rfl))
  exact lv_iinc hx hb hd hla.has hp0 rfl (by simp) rfl (fun la' h' => k H locs la' hH hlo (jl.st1 (ls := x0 :: x1 :: x2 :: x3 :: x4 :: x5 :: x6 :: x7 :: x8 :: x9 :: x10 :: some (.int x) :: r) (x0 :: x1 :: x2 :: x3 :: x4 :: x5 :: x6 :: x7 :: x8 :: x9 :: x10 :: some (.int (x + Int32.ofInt n)) :: r) rfl h' (by
    intro j w hj
    match j, hj with
    | 0, hj => exact Or.inr ⟨by decide, hj, fun q => absurd q (by decide)⟩
    | 1, hj => exact Or.inr ⟨by decide, hj, fun q => absurd q (by decide)⟩
    | 2, hj => exact Or.inr ⟨by decide, hj, fun q => absurd q (by decide)⟩
    | 3, hj => exact Or.inr ⟨by decide, hj, fun q => absurd q (by decide)⟩
    | 4, hj => exact Or.inr ⟨by decide, hj, fun q => absurd q (by decide)⟩
    | 5, hj => exact Or.inr ⟨by decide, hj, fun q => absurd q (by decide)⟩
    | 6, hj => exact Or.inr ⟨by decide, hj, fun q => absurd q (by decide)⟩
    | 7, hj => exact Or.inr ⟨by decide, hj, fun q => absurd q (by decide)⟩
    | 8, hj => exact Or.inr ⟨by decide, hj, fun q => absurd q (by decide)⟩
    | 9, hj => exact Or.inr ⟨by decide, hj, fun q => absurd q (by decide)⟩
    | 10, hj => exact Or.inr ⟨by decide, hj, fun _ => jcat_ne hc (Option.some.inj hj)⟩
    | 11, hj => exact Or.inl ⟨rfl, (Option.some.inj (Option.some.inj hj)).symm⟩
    | j + 12, hj => exact Or.inr ⟨by omega, hj, fun q => absurd q (by omega)⟩)) hg)
theorem J.lstore11 {x0 x1 x2 x3 x4 x5 x6 x7 x8 x9 x10 : Option Value} {r : List (Option Value)} {v : Int64} {y z : Option Value} (X : JX M K l0 cc own nL ret nm hh lv h0 QR QX) (hd : decode cc pc = .ok (.lstore 11, 2)) (k : J M h (pc + 2) (x0 :: x1 :: x2 :: x3 :: x4 :: x5 :: x6 :: x7 :: x8 :: x9 :: x10 :: some (.long v) :: none :: r) st) (hc : jcat x10 = true := by first | rfl | exact jcat_rf _) : J M h pc (x0 :: x1 :: x2 :: x3 :: x4 :: x5 :: x6 :: x7 :: x8 :: x9 :: x10 :: y :: z :: r) (.long v :: st) := by
  obtain ⟨K1, h1, R1, X1, p, l, e, R, s, m, args, below, meth, c⟩ := M
  obtain ⟨⟨rfl, rfl, rfl, rfl, rfl⟩, hx, hb, hml, hown, hr, hlk, hts, F, hW, hR, hs0, hb0, hnm, htab⟩ := X
  intro H locs la hH hlo hla hg
  exact lv_lstore hx hb hd  hla.has (by show (11 : Nat) + 1 < _; simp) rfl (fun la' h' => k H locs la' hH hlo (jl.st2 (ls := x0 :: x1 :: x2 :: x3 :: x4 :: x5 :: x6 :: x7 :: x8 :: x9 :: x10 :: y :: z :: r) (x0 :: x1 :: x2 :: x3 :: x4 :: x5 :: x6 :: x7 :: x8 :: x9 :: x10 :: some (.long v) :: none :: r) rfl h' (by
    intro j w hj
    match j, hj with
    | 0, hj => exact Or.inr ⟨by decide, by decide, hj, fun q => absurd q (by decide)⟩
    | 1, hj => exact Or.inr ⟨by decide, by decide, hj, fun q => absurd q (by decide)⟩
    | 2, hj => exact Or.inr ⟨by decide, by decide, hj, fun q => absurd q (by decide)⟩
    | 3, hj => exact Or.inr ⟨by decide, by decide, hj, fun q => absurd q (by decide)⟩
    | 4, hj => exact Or.inr ⟨by decide, by decide, hj, fun q => absurd q (by decide)⟩
    | 5, hj => exact Or.inr ⟨by decide, by decide, hj, fun q => absurd q (by decide)⟩
    | 6, hj => exact Or.inr ⟨by decide, by decide, hj, fun q => absurd q (by decide)⟩
    | 7, hj => exact Or.inr ⟨by decide, by decide, hj, fun q => absurd q (by decide)⟩
    | 8, hj => exact Or.inr ⟨by decide, by decide, hj, fun q => absurd q (by decide)⟩
    | 9, hj => exact Or.inr ⟨by decide, by decide, hj, fun q => absurd q (by decide)⟩
    | 10, hj => exact Or.inr ⟨by decide, by decide, hj, fun _ => jcat_ne hc (Option.some.inj hj)⟩
    | 11, hj => exact Or.inl ⟨rfl, (Option.some.inj (Option.some.inj hj)).symm⟩
    | 12, hj => cases hj
    | j + 13, hj => exact Or.inr ⟨by omega, by omega, hj, fun q => absurd q (by omega)⟩)) hg)
theorem J.iload12 {x0 x1 x2 x3 x4 x5 x6 x7 x8 x9 x10 x11 : Option Value} {r : List (Option Value)} {v : Int32} (X : JX M K l0 cc own nL ret nm hh lv h0 QR QX) (hd : decode cc pc = .ok (.iload 12, 2)) (k : J M h (pc + 2) (x0 :: x1 :: x2 :: x3 :: x4 :: x5 :: x6 :: x7 :: x8 :: x9 :: x10 :: x11 :: some (.int v) :: r) (.int v :: st))  : J M h pc (x0 :: x1 :: x2 :: x3 :: x4 :: x5 :: x6 :: x7 :: x8 :: x9 :: x10 :: x11 :: some (.int v) :: r) st := by
  obtain ⟨K1, h1, R1, X1, p, l, e, R, s, m, args, below, meth, c⟩ := M
  obtain ⟨⟨rfl, rfl, rfl, rfl, rfl⟩, hx, hb, hml, hown, hr, hlk, hts, F, hW, hR, hs0, hb0, hnm, htab⟩ := X
  intro H locs la hH hlo hla hg
  exact lv_iload hx hb hd  (hla.2.2 12 _ rfl) (k H locs la hH hlo hla hg)
theorem J.lload12 {x0 x1 x2 x3 x4 x5 x6 x7 x8 x9 x10 x11 : Option Value} {r : List (Option Value)} {v : Int64} (X : JX M K l0 cc own nL ret nm hh lv h0 QR QX) (hd : decode cc pc = .ok (.lload 12, 2)) (k : J M h (pc + 2) (x0 :: x1 :: x2 :: x3 :: x4 :: x5 :: x6 :: x7 :: x8 :: x9 :: x10 :: x11 :: some (.long v) :: r) (.long v :: st))  : J M h pc (x0 :: x1 :: x2 :: x3 :: x4 :: x5 :: x6 :: x7 :: x8 :: x9 :: x10 :: x11 :: some (.long v) :: r) st := by
  obtain ⟨K1, h1, R1, X1, p, l, e, R, s, m, args, below, meth, c⟩ := M
  obtain ⟨⟨rfl, rfl, rfl, rfl, rfl⟩, hx, hb, hml, hown, hr, hlk, hts, F, hW, hR, hs0, hb0, hnm, htab⟩ := X
  intro H locs la hH hlo hla hg
  exact lv_lload hx hb hd  (hla.2.2 12 _ rfl) (k H locs la hH hlo hla hg)
theorem J.aload12 {x0 x1 x2 x3 x4 x5 x6 x7 x8 x9 x10 x11 : Option Value} {r : List (Option Value)} {v : Value} (X : JX M K l0 cc own nL ret nm hh lv h0 QR QX) (hd : decode cc pc = .ok (.aload 12, 2)) (k : J M h (pc + 2) (x0 :: x1 :: x2 :: x3 :: x4 :: x5 :: x6 :: x7 :: x8 :: x9 :: x10 :: x11 :: some (v) :: r) (v :: st)) (hv : jref v = true := by first | rfl | exact jref_rf _) : J M h pc (x0 :: x1 :: x2 :: x3 :: x4 :: x5 :: x6 :: x7 :: x8 :: x9 :: x10 :: x11 :: some (v) :: r) st := by
  obtain ⟨K1, h1, R1, X1, p, l, e, R, s, m, args, below, meth, c⟩ := M
  obtain ⟨⟨rfl, rfl, rfl, rfl, rfl⟩, hx, hb, hml, hown, hr, hlk, hts, F, hW, hR, hs0, hb0, hnm, htab⟩ := X
  intro H locs la hH hlo hla hg
  cases v with
  | null => exact lv_aloadN hx hb hd  (hla.2.2 12 _ rfl) (k H locs la hH hlo hla hg)
  | ref a => exact lv_aload hx hb hd  (hla.2.2 12 _ rfl) (k H locs la hH hlo hla hg)
  | _ => cases hv
theorem J.istore12 {x0 x1 x2 x3 x4 x5 x6 x7 x8 x9 x10 x11 : Option Value} {r : List (Option Value)} {v : Int32} {y : Option Value} (X : JX M K l0 cc own nL ret nm hh lv h0 QR QX) (hd : decode cc pc = .ok (.istore 12, 2)) (k : J M h (pc + 2) (x0 :: x1 :: x2 :: x3 :: x4 :: x5 :: x6 :: x7 :: x8 :: x9 :: x10 :: x11 :: some (.int v) :: r) st)  (hc : jcat x11 = true := by first | rfl | exact jcat_rf _) : J M h pc (x0 :: x1 :: x2 :: x3 :: x4 :: x5 :: x6 :: x7 :: x8 :: x9 :: x10 :: x11 :: y :: r) (.int v :: st) := by
  obtain ⟨K1, h1, R1, X1, p, l, e, R, s, m, args, below, meth, c⟩ := M
  obtain ⟨⟨rfl, rfl, rfl, rfl, rfl⟩, hx, hb, hml, hown, hr, hlk, hts, F, hW, hR, hs0, hb0, hnm, htab⟩ := X
  intro H locs la hH hlo hla hg
  exact lv_istore hx hb hd  hla.has (by show (12 : Nat) < _; simp) rfl (fun la' h' => k H locs la' hH hlo (jl.st1 (ls := x0 :: x1 :: x2 :: x3 :: x4 :: x5 :: x6 :: x7 :: x8 :: x9 :: x10 :: x11 :: y :: r) (x0 :: x1 :: x2 :: x3 :: x4 :: x5 :: x6 :: x7 :: x8 :: x9 :: x10 :: x11 :: some (.int v) :: r) rfl h' (by
    intro j w hj
    match j, hj with
    | 0, hj => exact Or.inr ⟨by decide, hj, fun q => absurd q (by decide)⟩
    | 1, hj => exact Or.inr ⟨by decide, hj, fun q => absurd q (by decide)⟩
    | 2, hj => exact Or.inr ⟨by decide, hj, fun q => absurd q (by decide)⟩
    | 3, hj => exact Or.inr ⟨by decide, hj, fun q => absurd q (by decide)⟩
    | 4, hj => exact Or.inr ⟨by decide, hj, fun q => absurd q (by decide)⟩
    | 5, hj => exact Or.inr ⟨by decide, hj, fun q => absurd q (by decide)⟩
    | 6, hj => exact Or.inr ⟨by decide, hj, fun q => absurd q (by decide)⟩
    | 7, hj => exact Or.inr ⟨by decide, hj, fun q => absurd q (by decide)⟩
    | 8, hj => exact Or.inr ⟨by decide, hj, fun q => absurd q (by decide)⟩
    | 9, hj => exact Or.inr ⟨by decide, hj, fun q => absurd q (by decide)⟩
    | 10, hj => exact Or.inr ⟨by decide, hj, fun q => absurd q (by decide)⟩
    | 11, hj => exact Or.inr ⟨by decide, hj, fun _ => jcat_ne hc (Option.some.inj hj)⟩
    | 12, hj => exact Or.inl ⟨rfl, (Option.some.inj (Option.some.inj hj)).symm⟩
    | j + 13, hj => exact Or.inr ⟨by omega, hj, fun q => absurd q (by omega)⟩)) hg)
theorem J.astore12 {x0 x1 x2 x3 x4 x5 x6 x7 x8 x9 x10 x11 : Option Value} {r : List (Option Value)} {v : Value} {y : Option Value} (X : JX M K l0 cc own nL ret nm hh lv h0 QR QX) (hd : decode cc pc = .ok (.astore 12, 2)) (k : J M h (pc + 2) (x0 :: x1 :: x2 :: x3 :: x4 :: x5 :: x6 :: x7 :: x8 :: x9 :: x10 :: x11 :: some (v) :: r) st) (hv : jref v = true := by first | rfl | exact jref_rf _) (hc : jcat x11 = true := by first | rfl | exact jcat_rf _) : J M h pc (x0 :: x1 :: x2 :: x3 :: x4 :: x5 :: x6 :: x7 :: x8 :: x9 :: x10 :: x11 :: y :: r) (v :: st) := by
  obtain ⟨K1, h1, R1, X1, p, l, e, R, s, m, args, below, meth, c⟩ := M
  obtain ⟨⟨rfl, rfl, rfl, rfl, rfl⟩, hx, hb, hml, hown, hr, hlk, hts, F, hW, hR, hs0, hb0, hnm, htab⟩ := X
  intro H locs la hH hlo hla hg
  cases v with
  | null => exact lv_astoreN hx hb hd  hla.has (by show (12 : Nat) < _; simp) rfl (fun la' h' => k H locs la' hH hlo (jl.st1 (ls := x0 :: x1 :: x2 :: x3 :: x4 :: x5 :: x6 :: x7 :: x8 :: x9 :: x10 :: x11 :: y :: r) (x0 :: x1 :: x2 :: x3 :: x4 :: x5 :: x6 :: x7 :: x8 :: x9 :: x10 :: x11 :: some (.null) :: r) rfl h' (by
      intro j w hj
      match j, hj with
      | 0, hj => exact Or.inr ⟨by decide, hj, fun q => absurd q (by decide)⟩
      | 1, hj => exact Or.inr ⟨by decide, hj, fun q => absurd q (by decide)⟩
      | 2, hj => exact Or.inr ⟨by decide, hj, fun q => absurd q (by decide)⟩
      | 3, hj => exact Or.inr ⟨by decide, hj, fun q => absurd q (by decide)⟩
      | 4, hj => exact Or.inr ⟨by decide, hj, fun q => absurd q (by decide)⟩
      | 5, hj => exact Or.inr ⟨by decide, hj, fun q => absurd q (by decide)⟩
      | 6, hj => exact Or.inr ⟨by decide, hj, fun q => absurd q (by decide)⟩
      | 7, hj => exact Or.inr ⟨by decide, hj, fun q => absurd q (by decide)⟩
      | 8, hj => exact Or.inr ⟨by decide, hj, fun q => absurd q (by decide)⟩
      | 9, hj => exact Or.inr ⟨by decide, hj, fun q => absurd q (by decide)⟩
      | 10, hj => exact Or.inr ⟨by decide, hj, fun q => absurd q (by decide)⟩
      | 11, hj => exact Or.inr ⟨by decide, hj, fun _ => jcat_ne hc (Option.some.inj hj)⟩
      | 12, hj => exact Or.inl ⟨rfl, (Option.some.inj (Option.some.inj hj)).symm⟩
      | j + 13, hj => exact Or.inr ⟨by omega, hj, fun q => absurd q (by omega)⟩)) hg)
  | ref a => exact lv_astore hx hb hd  hla.has (by show (12 : Nat) < _; simp) rfl (fun la' h' => k H locs la' hH hlo (jl.st1 (ls := x0 :: x1 :: x2 :: x3 :: x4 :: x5 :: x6 :: x7 :: x8 :: x9 :: x10 :: x11 :: y :: r) (x0 :: x1 :: x2 :: x3 :: x4 :: x5 :: x6 :: x7 :: x8 :: x9 :: x10 :: x11 :: some (.ref a) :: r) rfl h' (by
      intro j w hj
      match j, hj with
      | 0, hj => exact Or.inr ⟨by decide, hj, fun q => absurd q (by decide)⟩
      | 1, hj => exact Or.inr ⟨by decide, hj, fun q => absurd q (by decide)⟩
      | 2, hj => exact Or.inr ⟨by decide, hj, fun q => absurd q (by decide)⟩
      | 3, hj => exact Or.inr ⟨by decide, hj, fun q => absurd q (by decide)⟩
      | 4, hj => exact Or.inr ⟨by decide, hj, fun q => absurd q (by decide)⟩
      | 5, hj => exact Or.inr ⟨by decide, hj, fun q => absurd q (by decide)⟩
      | 6, hj => exact Or.inr ⟨by decide, hj, fun q => absurd q (by decide)⟩
      | 7, hj => exact Or.inr ⟨by decide, hj, fun q => absurd q (by decide)⟩
      | 8, hj => exact Or.inr ⟨by decide, hj, fun q => absurd q (by decide)⟩
      | 9, hj => exact Or.inr ⟨by decide, hj, fun q => absurd q (by decide)⟩
      | 10, hj => exact Or.inr ⟨by decide, hj, fun q => absurd q (by decide)⟩
      | 11, hj => exact Or.inr ⟨by decide, hj, fun _ => jcat_ne hc (Option.some.inj hj)⟩
      | 12, hj => exact Or.inl ⟨rfl, (Option.some.inj (Option.some.inj hj)).symm⟩
      | j + 13, hj => exact Or.inr ⟨by omega, hj, fun q => absurd q (by omega)⟩)) hg)
  | _ => cases hv
theorem J.iinc12 {x0 x1 x2 x3 x4 x5 x6 x7 x8 x9 x10 x11 : Option Value} {r : List (Option Value)} {x : Int32} {n : Int} {d : Int32} (X : JX M K l0 cc own nL ret nm hh lv h0 QR QX) (hd : decode cc pc = .ok (.iinc 12 n, 3)) (he : Int32.ofInt n = d) (k : J M h (pc + 3) (x0 :: x1 :: x2 :: x3 :: x4 :: x5 :: x6 :: x7 :: x8 :: x9 :: x10 :: x11 :: some (.int (x + d)) :: r) st) (hc : jcat x11 = true := by first | rfl | exact jcat_rf _) : J M h pc (x0 :: x1 :: x2 :: x3 :: x4 :: x5 :: x6 :: x7 :: x8 :: x9 :: x10 :: x11 :: some (.int x) :: r) st := by
  obtain ⟨K1, h1, R1, X1, p, l, e, R, s, m, args, below, meth, c⟩ := M
  obtain ⟨⟨rfl, rfl, rfl, rfl, rfl⟩, hx, hb, hml, hown, hr, hlk, hts, F, hW, hR, hs0, hb0, hnm, htab⟩ := X
  intro H locs la hH hlo hla hg
  subst he
  obtain ⟨p0, hp0⟩ := List.mem_iff_getElem?.mp (jlv_mem.mpr (show (x0 :: x1 :: x2 :: x3 :: x4 :: x5 :: x6 :: x7 :: x8 :: x9 :: x10 :: x11 :: some (.int x) :: r)[12]? = some (some (Value.int x)) from rfl))
  exact lv_iinc hx hb hd hla.has hp0 rfl (by simp) rfl (fun la' h' => k H locs la' hH hlo (jl.st1 (ls := x0 :: x1 :: x2 :: x3 :: x4 :: x5 :: x6 :: x7 :: x8 :: x9 :: x10 :: x11 :: some (.int x) :: r) (x0 :: x1 :: x2 :: x3 :: x4 :: x5 :: x6 :: x7 :: x8 :: x9 :: x10 :: x11 :: some (.int (x + Int32.ofInt n)) :: r) rfl h' (by
    intro j w hj
    match j, hj with
    | 0, hj => exact Or.inr ⟨by decide, hj, fun q => absurd q (by decide)⟩
    | 1, hj => exact Or.inr ⟨by decide, hj, fun q => absurd q (by decide)⟩
    | 2, hj => exact Or.inr ⟨by decide, hj, fun q => absurd q (by decide)⟩
    | 3, hj => exact Or.inr ⟨by decide, hj, fun q => absurd q (by decide)⟩
    | 4, hj => exact Or.inr ⟨by decide, hj, fun q => absurd q (by decide)⟩
    | 5, hj => exact Or.inr ⟨by decide, hj, fun q => absurd q (by decide)⟩
    | 6, hj => exact Or.inr ⟨by decide, hj, fun q => absurd q (by decide)⟩
    | 7, hj => exact Or.inr ⟨by decide, hj, fun q => absurd q (by decide)⟩
    | 8, hj => exact Or.inr ⟨by decide, hj, fun q => absurd q (by decide)⟩
    | 9, hj => exact Or.inr ⟨by decide, hj, fun q => absurd q (by decide)⟩
    | 10, hj => exact Or.inr ⟨by decide, hj, fun q => absurd q (by decide)⟩
    | 11, hj => exact Or.inr ⟨by decide, hj, fun _ => jcat_ne hc (Option.some.inj hj)⟩
    | 12, hj => exact Or.inl ⟨rfl, (Option.some.inj (Option.some.inj hj)).symm⟩
    | j + 13, hj => exact Or.inr ⟨by omega, hj, fun q => absurd q (by omega)⟩)) hg)
theorem J.lstore12 {x0 x1 x2 x3 x4 x5 x6 x7 x8 x9 x10 x11 : Option Value} {r : List (Option Value)} {v : Int64} {y z : Option Value} (X : JX M K l0 cc own nL ret nm hh lv h0 QR QX) (hd : decode cc pc = .ok (.lstore 12, 2)) (k : J M h (pc + 2) (x0 :: x1 :: x2 :: x3 :: x4 :: x5 :: x6 :: x7 :: x8 :: x9 :: x10 :: x11 :: some (.long v) :: none :: r) st) (hc : jcat x11 = true := by first | rfl | exact jcat_rf _) : J M h pc (x0 :: x1 :: x2 :: x3 :: x4 :: x5 :: x6 :: x7 :: x8 :: x9 :: x10 :: x11 :: y :: z :: r) (.long v :: st) := by
  obtain ⟨K1, h1, R1, X1, p, l, e, R, s, m, args, below, meth, c⟩ := M
  obtain ⟨⟨rfl, rfl, rfl, rfl, rfl⟩, hx, hb, hml, hown, hr, hlk, hts, F, hW, hR, hs0, hb0, hnm, htab⟩ := X
  intro H locs la hH hlo hla hg
  exact lv_lstore hx hb hd  hla.has (by show (12 : Nat) + 1 < _; simp) rfl (fun la' h' => k H locs la' hH hlo (jl.st2 (ls := x0 :: x1 :: x2 :: x3 :: x4 :: x5 :: x6 :: x7 :: x8 :: x9 :: x10 :: x11 :: y :: z :: r) (x0 :: x1 :: x2 :: x3 :: x4 :: x5 :: x6 :: x7 :: x8 :: x9 :: x10 :: x11 :: some (.long v) :: none :: r) rfl h' (by
    intro j w hj
    match j, hj with
    | 0, hj => exact Or.inr ⟨by decide, by decide, hj, fun q => absurd q (by decide)⟩
    | 1, hj => exact Or.inr ⟨by decide, by decide, hj, fun q => absurd q (by decide)⟩
    | 2, hj => exact Or.inr ⟨by decide, by decide, hj, fun q => absurd q (by decide)⟩
    | 3, hj => exact Or.inr ⟨by decide, by decide, hj, fun q => absurd q (by decide)⟩
    | 4, hj => exact Or.inr ⟨by decide, by decide, hj, fun q => absurd q (by decide)⟩
    | 5, hj => exact Or.inr ⟨by decide, by decide, hj, fun q => absurd q (by decide)⟩
    | 6, hj => exact Or.inr ⟨by decide, by decide, hj, fun q => absurd q (by decide)⟩
    | 7, hj => exact Or.inr ⟨by decide, by decide, hj, fun q => absurd q (by decide)⟩
    | 8, hj => exact Or.inr ⟨by decide, by decide, hj, fun q => absurd q (by decide)⟩
    | 9, hj => exact Or.inr ⟨by decide, by decide, hj, fun q => absurd q (by decide)⟩
    | 10, hj => exact Or.inr ⟨by decide, by decide, hj, fun q => absurd q (by decide)⟩
    | 11, hj => exact Or.inr ⟨by decide, by decide, hj, fun _ => jcat_ne hc (Option.some.inj hj)⟩
    | 12, hj => exact Or.inl ⟨rfl, (Option.some.inj (Option.some.inj hj)).symm⟩
    | 13, hj => cases hj
    | j + 14, hj => exact Or.inr ⟨by omega, by omega, hj, fun q => absurd q (by omega)⟩)) hg)
theorem J.iload13 {x0 x1 x2 x3 x4 x5 x6 x7 x8 x9 x10 x11 x12 : Option Value} {r : List (Option Value)} {v : Int32} (X : JX M K l0 cc own nL ret nm hh lv h0 QR QX) (hd : decode cc pc = .ok (.iload 13, 2)) (k : J M h (pc + 2) (x0 :: x1 :: x2 :: x3 :: x4 :: x5 :: x6 :: x7 :: x8 :: x9 :: x10 :: x11 :: x12 :: some (.int v) :: r) (.int v :: st))  : J M h pc (x0 :: x1 :: x2 :: x3 :: x4 :: x5 :: x6 :: x7 :: x8 :: x9 :: x10 :: x11 :: x12 :: some (.int v) :: r) st := by
  obtain ⟨K1, h1, R1, X1, p, l, e, R, s, m, args, below, meth, c⟩ := M
  obtain ⟨⟨rfl, rfl, rfl, rfl, rfl⟩, hx, hb, hml, hown, hr, hlk, hts, F, hW, hR, hs0, hb0, hnm, htab⟩ := X
  intro H locs la hH hlo hla hg
  exact lv_iload hx hb hd  (hla.2.2 13 _ rfl) (k H locs la hH hlo hla hg)
theorem J.lload13 {x0 x1 x2 x3 x4 x5 x6 x7 x8 x9 x10 x11 x12 : Option Value} {r : List (Option Value)} {v : Int64} (X : JX M K l0 cc own nL ret nm hh lv h0 QR QX) (hd : decode cc pc = .ok (.lload 13, 2)) (k : J M h (pc + 2) (x0 :: x1 :: x2 :: x3 :: x4 :: x5 :: x6 :: x7 :: x8 :: x9 :: x10 :: x11 :: x12 :: some (.long v) :: r) (.long v :: st))  : J M h pc (x0 :: x1 :: x2 :: x3 :: x4 :: x5 :: x6 :: x7 :: x8 :: x9 :: x10 :: x11 :: x12 :: some (.long v) :: r) st := by
  obtain ⟨K1, h1, R1, X1, p, l, e, R, s, m, args, below, meth, c⟩ := M
  obtain ⟨⟨rfl, rfl, rfl, rfl, rfl⟩, hx, hb, hml, hown, hr, hlk, hts, F, hW, hR, hs0, hb0, hnm, htab⟩ := X
  intro H locs la hH hlo hla hg
  exact lv_lload hx hb hd  (hla.2.2 13 _ rfl) (k H locs la hH hlo hla hg)
theorem J.aload13 {x0 x1 x2 x3 x4 x5 x6 x7 x8 x9 x10 x11 x12 : Option Value} {r : List (Option Value)} {v : Value} (X : JX M K l0 cc own nL ret nm hh lv h0 QR QX) (hd : decode cc pc = .ok (.aload 13, 2)) (k : J M h (pc + 2) (x0 :: x1 :: x2 :: x3 :: x4 :: x5 :: x6 :: x7 :: x8 :: x9 :: x10 :: x11 :: x12 :: some (v) :: r) (v :: st)) (hv : jref v = true := by first | rfl | exact jref_rf _) : J M h pc (x0 :: x1 :: x2 :: x3 :: x4 :: x5 :: x6 :: x7 :: x8 :: x9 :: x10 :: x11 :: x12 :: some (v) :: r) st := by
  obtain ⟨K1, h1, R1, X1, p, l, e, R, s, m, args, below, meth, c⟩ := M
  obtain ⟨⟨rfl, rfl, rfl, rfl, rfl⟩, hx, hb, hml, hown, hr, hlk, hts, F, hW, hR, hs0, hb0, hnm, htab⟩ := X
  intro H locs la hH hlo hla hg
  cases v with
  | null => exact lv_aloadN hx hb hd  (hla.2.2 13 _ rfl) (k H locs la hH hlo hla hg)
  | ref a => exact lv_aload hx hb hd  (hla.2.2 13 _ rfl) (k H locs la hH hlo hla hg)
  | _ => cases hv
theorem J.istore13 {x0 x1 x2 x3 x4 x5 x6 x7 x8 x9 x10 x11 x12 : Option Value} {r : List (Option Value)} {v : Int32} {y : Option Value} (X : JX M K l0 cc own nL ret nm hh lv h0 QR QX) (hd : decode cc pc = .ok (.istore 13, 2)) (k : J M h (pc + 2) (x0 :: x1 :: x2 :: x3 :: x4 :: x5 :: x6 :: x7 :: x8 :: x9 :: x10 :: x11 :: x12 :: some (.int v) :: r) st)  (hc : jcat x12 = true := by first | rfl | exact jcat_rf _) : J M h pc (x0 :: x1 :: x2 :: x3 :: x4 :: x5 :: x6 :: x7 :: x8 :: x9 :: x10 :: x11 :: x12 :: y :: r) (.int v :: st) := by
  obtain ⟨K1, h1, R1, X1, p, l, e, R, s, m, args, below, meth, c⟩ := M
  obtain ⟨⟨rfl, rfl, rfl, rfl, rfl⟩, hx, hb, hml, hown, hr, hlk, hts, F, hW, hR, hs0, hb0, hnm, htab⟩ := X
  intro H locs la hH hlo hla hg
  exact lv_istore hx hb hd  hla.has (by show (13 : Nat) < _; simp) rfl (fun la' h' => k H locs la' hH hlo (jl.st1 (ls := x0 :: x1 :: x2 :: x3 :: x4 :: x5 :: x6 :: x7 :: x8 :: x9 :: x10 :: x11 :: x12 :: y :: r) (x0 :: x1 :: x2 :: x3 :: x4 :: x5 :: x6 :: x7 :: x8 :: x9 :: x10 :: x11 :: x12 :: some (.int v) :: r) rfl h' (by
    intro j w hj
    match j, hj with
    | 0, hj => exact Or.inr ⟨by decide, hj, fun q => absurd q (by decide)⟩
    | 1, hj => exact Or.inr ⟨by decide, hj, fun q => absurd q (by decide)⟩
    | 2, hj => exact Or.inr ⟨by decide, hj, fun q => absurd q (by decide)⟩
    | 3, hj => exact Or.inr ⟨by decide, hj, fun q => absurd q (by decide)⟩
    | 4, hj => exact Or.inr ⟨by decide, hj, fun q => absurd q (by decide)⟩
    | 5, hj => exact Or.inr ⟨by decide, hj, fun q => absurd q (by decide)⟩
    | 6, hj => exact Or.inr ⟨by decide, hj, fun q => absurd q (by decide)⟩
    | 7, hj => exact Or.inr ⟨by decide, hj, fun q => absurd q (by decide)⟩
    | 8, hj => exact Or.inr ⟨by decide, hj, fun q => absurd q (by decide)⟩
    | 9, hj => exact Or.inr ⟨by decide, hj, fun q => absurd q (by decide)⟩
    | 10, hj => exact Or.inr ⟨by decide, hj, fun q => absurd q (by decide)⟩
    | 11, hj => exact Or.inr ⟨by decide, hj, fun q => absurd q (by decide)⟩
    | 12, hj => exact Or.inr ⟨by decide, hj, fun _ => jcat_ne hc (Option.some.inj hj)⟩
    | 13, hj => exact Or.inl ⟨rfl, (Option.some.inj (Option.some.inj hj)).symm⟩
    | j + 14, hj => exact Or.inr ⟨by omega, hj, fun q => absurd q (by omega)⟩)) hg)
theorem J.astore13 {x0 x1 x2 x3 x4 x5 x6 x7 x8 x9 x10 x11 x12 : Option Value} {r : List (Option Value)} {v : Value} {y : Option Value} (X : JX M K l0 cc own nL ret nm hh lv h0 QR QX) (hd : decode cc pc = .ok (.astore 13, 2)) (k : J M h (pc + 2) (x0 :: x1 :: x2 :: x3 :: x4 :: x5 :: x6 :: x7 :: x8 :: x9 :: x10 :: x11 :: x12 :: some (v) :: r) st) (hv : jref v = true := by first | rfl | exact jref_rf _) (hc : jcat x12 = true := by first | rfl | exact jcat_rf _) : J M h pc (x0 :: x1 :: x2 :: x3 :: x4 :: x5 :: x6 :: x7 :: x8 :: x9 :: x10 :: x11 :: x12 :: y :: r) (v :: st) := by
  obtain ⟨K1, h1, R1, X1, p, l, e, R, s, m, args, below, meth, c⟩ := M
  obtain ⟨⟨rfl, rfl, rfl, rfl, rfl⟩, hx, hb, hml, hown, hr, hlk, hts, F, hW, hR, hs0, hb0, hnm, htab⟩ := X
  intro H locs la hH hlo hla hg
  cases v with
  | null => exact lv_astoreN hx hb hd  hla.has (by show (13 : Nat) < _; simp) rfl (fun la' h' => k H locs la' hH hlo (jl.st1 (ls := x0 :: x1 :: x2 :: x3 :: x4 :: x5 :: x6 :: x7 :: x8 :: x9 :: x10 :: x11 :: x12 :: y :: r) (x0 :: x1 :: x2 :: x3 :: x4 :: x5 :: x6 :: x7 :: x8 :: x9 :: x10 :: x11 :: x12 :: some (.null) :: r) rfl h' (by
      intro j w hj
      match j, hj with
      | 0, hj => exact Or.inr ⟨by decide, hj, fun q => absurd q (by decide)⟩
      | 1, hj => exact Or.inr ⟨by decide, hj, fun q => absurd q (by decide)⟩
      | 2, hj => exact Or.inr ⟨by decide, hj, fun q => absurd q (by decide)⟩
      | 3, hj => exact Or.inr ⟨by decide, hj, fun q => absurd q (by decide)⟩
      | 4, hj => exact Or.inr ⟨by decide, hj, fun q => absurd q (by decide)⟩
      | 5, hj => exact Or.inr ⟨by decide, hj, fun q => absurd q (by decide)⟩
      | 6, hj => exact Or.inr ⟨by decide, hj, fun q => absurd q (by decide)⟩
      | 7, hj => exact Or.inr ⟨by decide, hj, fun q => absurd q (by decide)⟩
      | 8, hj => exact Or.inr ⟨by decide, hj, fun q => absurd q (by decide)⟩
      | 9, hj => exact Or.inr ⟨by decide, hj, fun q => absurd q (by decide)⟩
      | 10, hj => exact Or.inr ⟨by decide, hj, fun q => absurd q (by decide)⟩
      | 11, hj => exact Or.inr ⟨by decide, hj, fun q => absurd q (by decide)⟩
      | 12, hj => exact Or.inr ⟨by decide, hj, fun _ => jcat_ne hc (Option.some.inj hj)⟩
      | 13, hj => exact Or.inl ⟨rfl, (Option.some.inj (Option.some.inj hj)).symm⟩
      | j + 14, hj => exact Or.inr ⟨by omega, hj, fun q => absurd q (by omega)⟩)) hg)
  | ref a => exact lv_astore hx hb hd  hla.has (by show (13 : Nat) < _; simp) rfl (fun la' h' => k H locs la' hH hlo (jl.st1 (ls := x0 :: x1 :: x2 :: x3 :: x4 :: x5 :: x6 :: x7 :: x8 :: x9 :: x10 :: x11 :: x12 :: y :: r) (x0 :: x1 :: x2 :: x3 :: x4 :: x5 :: x6 :: x7 :: x8 :: x9 :: x10 :: x11 :: x12 :: some (.ref a) :: r) rfl h' (by
      intro j w hj
      match j, hj with
      | 0, hj => exact Or.inr ⟨by decide, hj, fun q => absurd q (by decide)⟩
      | 1, hj => exact Or.inr ⟨by decide, hj, fun q => absurd q (by decide)⟩
      | 2, hj => exact Or.inr ⟨by decide, hj, fun q => absurd q (by decide)⟩
      | 3, hj => exact Or.inr ⟨by decide, hj, fun q => absurd q (by decide)⟩
      | 4, hj => exact Or.inr ⟨by decide, hj, fun q => absurd q (by decide)⟩
      | 5, hj => exact Or.inr ⟨by decide, hj, fun q => absurd q (by decide)⟩
      | 6, hj => exact Or.inr ⟨by decide, hj, fun q => absurd q (by decide)⟩
      | 7, hj => exact Or.inr ⟨by decide, hj, fun q => absurd q (by decide)⟩
      | 8, hj => exact Or.inr ⟨by decide, hj, fun q => absurd q (by decide)⟩
      | 9, hj => exact Or.inr ⟨by decide, hj, fun q => absurd q (by decide)⟩
      | 10, hj => exact Or.inr ⟨by decide, hj, fun q => absurd q (by decide)⟩
      | 11, hj => exact Or.inr ⟨by decide, hj, fun q => absurd q (by decide)⟩
      | 12, hj => exact Or.inr ⟨by decide, hj, fun _ => jcat_ne hc (Option.some.inj hj)⟩
      | 13, hj => exact Or.inl ⟨rfl, (Option.some.inj (Option.some.inj hj)).symm⟩
      | j + 14, hj => exact Or.inr ⟨by omega, hj, fun q => absurd q (by omega)⟩)) hg)
  | _ => cases hv
theorem J.iinc13 {x0 x1 x2 x3 x4 x5 x6 x7 x8 x9 x10 x11 x12 : Option Value} {r : List (Option Value)} {x : Int32} {n : Int} {d : Int32} (X : JX M K l0 cc own nL ret nm hh lv h0 QR QX) (hd : decode cc pc = .ok (.iinc 13 n, 3)) (he : Int32.ofInt n = d) (k : J M h (pc + 3) (x0 :: x1 :: x2 :: x3 :: x4 :: x5 :: x6 :: x7 :: x8 :: x9 :: x10 :: x11 :: x12 :: some (.int (x + d)) :: r) st) (hc : jcat x12 = true := by first | rfl | exact jcat_rf _) : J M h pc (x0 :: x1 :: x2 :: x3 :: x4 :: x5 :: x6 :: x7 :: x8 :: x9 :: x10 :: x11 :: x12 :: some (.int x) :: r) st := by
  obtain ⟨K1, h1, R1, X1, p, l, e, R, s, m, args, below, meth, c⟩ := M
  obtain ⟨⟨rfl, rfl, rfl, rfl, rfl⟩, hx, hb, hml, hown, hr, hlk, hts, F, hW, hR, hs0, hb0, hnm, htab⟩ := X
  intro H locs la hH hlo hla hg
  subst he
  obtain ⟨p0, hp0⟩ := List.mem_iff_getElem?.mp (jlv_mem.mpr (show (x0 :: x1 :: x2 :: x3 :: x4 :: x5 :: x6 :: x7 :: x8 :: x9 :: x10 :: x11 :: x12 :: some (.int x) :: r)[13]? = some (some (Value.int x)) from rfl))
  exact lv_iinc hx hb hd hla.has hp0 rfl (by simp) rfl (fun la' h' => k H locs la' hH hlo (jl.st1 (ls := x0 :: x1 :: x2 :: x3 :: x4 :: x5 :: x6 :: x7 :: x8 :: x9 :: x10 :: x11 :: x12 :: some (.int x) :: r) (x0 :: x1 :: x2 :: x3 :: x4 :: x5 :: x6 :: x7 :: x8 :: x9 :: x10 :: x11 :: x12 :: some (.int (x + Int32.ofInt n)) :: r) rfl h' (by
    intro j w hj
    match j, hj with
    | 0, hj => exact Or.inr ⟨by decide, hj, fun q => absurd q (by decide)⟩
    | 1, hj => exact Or.inr ⟨by decide, hj, fun q => absurd q (by decide)⟩
    | 2, hj => exact Or.inr ⟨by decide, hj, fun q => absurd q (by decide)⟩
    | 3, hj => exact Or.inr ⟨by decide, hj, fun q => absurd q (by decide)⟩
    | 4, hj => exact Or.inr ⟨by decide, hj, fun q => absurd q (by decide)⟩
    | 5, hj => exact Or.inr ⟨by decide, hj, fun q => absurd q (by decide)⟩
    | 6, hj => exact Or.inr ⟨by decide, hj, fun q => absurd q (by decide)⟩
    | 7, hj => exact Or.inr ⟨by decide, hj, fun q => absurd q (by decide)⟩
    | 8, hj => exact Or.inr ⟨by decide, hj, fun q => absurd q (by decide)⟩
    | 9, hj => exact Or.inr ⟨by decide, hj, fun q => absurd q (by decide)⟩
    | 10, hj => exact Or.inr ⟨by decide, hj, fun q => absurd q (by decide)⟩
    | 11, hj => exact Or.inr ⟨by decide, hj, fun q => absurd q (by decide)⟩
    | 12, hj => exact Or.inr ⟨by decide, hj, fun _ => jcat_ne hc (Option.some.inj hj)⟩
    | 13, hj => exact Or.inl ⟨rfl, (Option.some.inj (Option.some.inj hj)).symm⟩
    | j + 14, hj => exact Or.inr ⟨by omega, hj, fun q => absurd q (by omega)⟩)) hg)
theorem J.lstore13 {x0 x1 x2 x3 x4 x5 x6 x7 x8 x9 x10 x11 x12 : Option Value} {r : List (Option Value)} {v : Int64} {y z : Option Value} (X : JX M K l0 cc own nL ret nm hh lv h0 QR QX) (hd : decode cc pc = .ok (.lstore 13, 2)) (k : J M h (pc + 2) (x0 :: x1 :: x2 :: x3 :: x4 :: x5 :: x6 :: x7 :: x8 :: x9 :: x10 :: x11 :: x12 :: some (.long v) :: none :: r) st) (hc : jcat x12 = true := by first | rfl | exact jcat_rf _) : J M h pc (x0 :: x1 :: x2 :: x3 :: x4 :: x5 :: x6 :: x7 :: x8 :: x9 :: x10 :: x11 :: x12 :: y :: z :: r) (.long v :: st) := by
  obtain ⟨K1, h1, R1, X1, p, l, e, R, s, m, args, below, meth, c⟩ := M
  obtain ⟨⟨rfl, rfl, rfl, rfl, rfl⟩, hx, hb, hml, hown, hr, hlk, hts, F, hW, hR, hs0, hb0, hnm, htab⟩ := X
  intro H locs la hH hlo hla hg
  exact lv_lstore hx hb hd  hla.has (by show (13 : Nat) + 1 < _; simp) rfl (fun la' h' => k H locs la' hH hlo (jl.st2 (ls := x0 :: x1 :: x2 :: x3 :: x4 :: x5 :: x6 :: x7 :: x8 :: x9 :: x10 :: x11 :: x12 :: y :: z :: r) (x0 :: x1 :: x2 :: x3 :: x4 :: x5 :: x6 :: x7 :: x8 :: x9 :: x10 :: x11 :: x12 :: some (.long v) :: none :: r) rfl h' (by
    intro j w hj
    match j, hj with
    | 0, hj => exact Or.inr ⟨by decide, by decide, hj, fun q => absurd q (by decide)⟩
    | 1, hj => exact Or.inr ⟨by decide, by decide, hj, fun q => absurd q (by decide)⟩
    | 2, hj => exact Or.inr ⟨by decide, by decide, hj, fun q => absurd q (by decide)⟩
    | 3, hj => exact Or.inr ⟨by decide, by decide, hj, fun q => absurd q (by decide)⟩
    | 4, hj => exact Or.inr ⟨by decide, by decide, hj, fun q => absurd q (by decide)⟩
    | 5, hj => exact Or.inr ⟨by decide, by decide, hj, fun q => absurd q (by decide)⟩
    | 6, hj => exact Or.inr ⟨by decide, by decide, hj, fun q => absurd q (by decide)⟩
    | 7, hj => exact Or.inr ⟨by decide, by decide, hj, fun q => absurd q (by decide)⟩
    | 8, hj => exact Or.inr ⟨by decide, by decide, hj, fun q => absurd q (by decide)⟩
    | 9, hj => exact Or.inr ⟨by decide, by decide, hj, fun q => absurd q (by decide)⟩
    | 10, hj => exact Or.inr ⟨by decide, by decide, hj, fun q => absurd q (by decide)⟩
    | 11, hj => exact Or.inr ⟨by decide, by decide, hj, fun q => absurd q (by decide)⟩
    | 12, hj => exact Or.inr ⟨by decide, by decide, hj, fun _ => jcat_ne hc (Option.some.inj hj)⟩
    | 13, hj => exact Or.inl ⟨rfl, (Option.some.inj (Option.some.inj hj)).symm⟩
    | 14, hj => cases hj
    | j + 15, hj => exact Or.inr ⟨by omega, by omega, hj, fun q => absurd q (by omega)⟩)) hg)
theorem J.iload14 {x0 x1 x2 x3 x4 x5 x6 x7 x8 x9 x10 x11 x12 x13 : Option Value} {r : List (Option Value)} {v : Int32} (X : JX M K l0 cc own nL ret nm hh lv h0 QR QX) (hd : decode cc pc = .ok (.iload 14, 2)) (k : J M h (pc + 2) (x0 :: x1 :: x2 :: x3 :: x4 :: x5 :: x6 :: x7 :: x8 :: x9 :: x10 :: x11 :: x12 :: x13 :: some (.int v) :: r) (.int v :: st))  : J M h pc (x0 :: x1 :: x2 :: x3 :: x4 :: x5 :: x6 :: x7 :: x8 :: x9 :: x10 :: x11 :: x12 :: x13 :: some (.int v) :: r) st := by
  obtain ⟨K1, h1, R1, X1, p, l, e, R, s, m, args, below, meth, c⟩ := M
  obtain ⟨⟨rfl, rfl, rfl, rfl, rfl⟩, hx, hb, hml, hown, hr, hlk, hts, F, hW, hR, hs0, hb0, hnm, htab⟩ := X
  intro H locs la hH hlo hla hg
  exact lv_iload hx hb hd  (hla.2.2 14 _ rfl) (k H locs la hH hlo hla hg)
theorem J.lload14 {x0 x1 x2 x3 x4 x5 x6 x7 x8 x9 x10 x11 x12 x13 : Option Value} {r : List (Option Value)} {v : Int64} (X : JX M K l0 cc own nL ret nm hh lv h0 QR QX) (hd : decode cc pc = .ok (.lload 14, 2)) (k : J M h (pc + 2) (x0 :: x1 :: x2 :: x3 :: x4 :: x5 :: x6 :: x7 :: x8 :: x9 :: x10 :: x11 :: x12 :: x13 :: some (.long v) :: r) (.long v :: st))  : J M h pc (x0 :: x1 :: x2 :: x3 :: x4 :: x5 :: x6 :: x7 :: x8 :: x9 :: x10 :: x11 :: x12 :: x13 :: some (.long v) :: r) st := by
  obtain ⟨K1, h1, R1, X1, p, l, e, R, s, m, args, below, meth, c⟩ := M
  obtain ⟨⟨rfl, rfl, rfl, rfl, rfl⟩, hx, hb, hml, hown, hr, hlk, hts, F, hW, hR, hs0, hb0, hnm, htab⟩ := X
  intro H locs la hH hlo hla hg
  exact lv_lload hx hb hd  (hla.2.2 14 _ rfl) (k H locs la hH hlo hla hg)
theorem J.aload14 {x0 x1 x2 x3 x4 x5 x6 x7 x8 x9 x10 x11 x12 x13 : Option Value} {r : List (Option Value)} {v : Value} (X : JX M K l0 cc own nL ret nm hh lv h0 QR QX) (hd : decode cc pc = .ok (.aload 14, 2)) (k : J M h (pc + 2) (x0 :: x1 :: x2 :: x3 :: x4 :: x5 :: x6 :: x7 :: x8 :: x9 :: x10 :: x11 :: x12 :: x13 :: some (v) :: r) (v :: st)) (hv : jref v = true := by first | rfl | exact jref_rf _) : J M h pc (x0 :: x1 :: x2 :: x3 :: x4 :: x5 :: x6 :: x7 :: x8 :: x9 :: x10 :: x11 :: x12 :: x13 :: some (v) :: r) st := by
  obtain ⟨K1, h1, R1, X1, p, l, e, R, s, m, args, below, meth, c⟩ := M
  obtain ⟨⟨rfl, rfl, rfl, rfl, rfl⟩, hx, hb, hml, hown, hr, hlk, hts, F, hW, hR, hs0, hb0, hnm, htab⟩ := X
  intro H locs la hH hlo hla hg
  cases v with
  | null => exact lv_aloadN hx hb hd  (hla.2.2 14 _ rfl) (k H locs la hH hlo hla hg)
  | ref a => exact lv_aload hx hb hd  (hla.2.2 14 _ rfl) (k H locs la hH hlo hla hg)
  | _ => cases hv
theorem J.istore14 {x0 x1 x2 x3 x4 x5 x6 x7 x8 x9 x10 x11 x12 x13 : Option Value} {r : List (Option Value)} {v : Int32} {y : Option Value} (X : JX M K l0 cc own nL ret nm hh lv h0 QR QX) (hd : decode cc pc = .ok (.istore 14, 2)) (k : J M h (pc + 2) (x0 :: x1 :: x2 :: x3 :: x4 :: x5 :: x6 :: x7 :: x8 :: x9 :: x10 :: x11 :: x12 :: x13 :: some (.int v) :: r) st)  (hc : jcat x13 = true := by first | rfl | exact jcat_rf _) : J M h pc (x0 :: x1 :: x2 :: x3 :: x4 :: x5 :: x6 :: x7 :: x8 :: x9 :: x10 :: x11 :: x12 :: x13 :: y :: r) (.int v :: st) := by
  obtain ⟨K1, h1, R1, X1, p, l, e, R, s, m, args, below, meth, c⟩ := M
  obtain ⟨⟨rfl, rfl, rfl, rfl, rfl⟩, hx, hb, hml, hown, hr, hlk, hts, F, hW, hR, hs0, hb0, hnm, htab⟩ := X
  intro H locs la hH hlo hla hg
  exact lv_istore hx hb hd  hla.has (by show (14 : Nat) < _; simp) rfl (fun la' h' => k H locs la' hH hlo (jl.st1 (ls := x0 :: x1 :: x2 :: x3 :: x4 :: x5 :: x6 :: x7 :: x8 :: x9 :: x10 :: x11 :: x12 :: x13 :: y :: r) (x0 :: x1 :: x2 :: x3 :: x4 :: x5 :: x6 :: x7 :: x8 :: x9 :: x10 :: x11 :: x12 :: x13 :: some (.int v) :: r) rfl h' (by
    intro j w hj
    match j, hj with
    | 0, hj => exact Or.inr ⟨by decide, hj, fun q => absurd q (by decide)⟩
    | 1, hj => exact Or.inr ⟨by decide, hj, fun q => absurd q (by decide)⟩
    | 2, hj => exact Or.inr ⟨by decide, hj, fun q => absurd q (by decide)⟩
    | 3, hj => exact Or.inr ⟨by decide, hj, fun q => absurd q (by decide)⟩
    | 4, hj => exact Or.inr ⟨by decide, hj, fun q => absurd q (by decide)⟩
    | 5, hj => exact Or.inr ⟨by decide, hj, fun q => absurd q (by decide)⟩
    | 6, hj => exact Or.inr ⟨by decide, hj, fun q => absurd q (by decide)⟩
    | 7, hj => exact Or.inr ⟨by decide, hj, fun q => absurd q (by decide)⟩
    | 8, hj => exact Or.inr ⟨by decide, hj, fun q => absurd q (by decide)⟩
    | 9, hj => exact Or.inr ⟨by decide, hj, fun q => absurd q (by decide)⟩
    | 10, hj => exact Or.inr ⟨by decide, hj, fun q => absurd q (by decide)⟩
    | 11, hj => exact Or.inr ⟨by decide, hj, fun q => absurd q (by decide)⟩
    | 12, hj => exact Or.inr ⟨by decide, hj, fun q => absurd q (by decide)⟩
    | 13, hj => exact Or.inr ⟨by decide, hj, fun _ => jcat_ne hc (Option.some.inj hj)⟩
    | 14, hj => exact Or.inl ⟨rfl, (Option.some.inj (Option.some.inj hj)).symm⟩
    | j + 15, hj => exact Or.inr ⟨by omega, hj, fun q => absurd q (by omega)⟩)) hg)
theorem J.astore14 {x0 x1 x2 x3 x4 x5 x6 x7 x8 x9 x10 x11 x12 x13 : Option Value} {r : List (Option Value)} {v : Value} {y : Option Value} (X : JX M K l0 cc own nL ret nm hh lv h0 QR QX) (hd : decode cc pc = .ok (.astore 14, 2)) (k : J M h (pc + 2) (x0 :: x1 :: x2 :: x3 :: x4 :: x5 :: x6 :: x7 :: x8 :: x9 :: x10 :: x11 :: x12 :: x13 :: some (v) :: r) st) (hv : jref v = true := by first | rfl | exact jref_rf _) (hc : jcat x13 = true := by first | rfl | exact jcat_rf _) : J M h pc (x0 :: x1 :: x2 :: x3 :: x4 :: x5 :: x6 :: x7 :: x8 :: x9 :: x10 :: x11 :: x12 :: x13 :: y :: r) (v :: st) := by
  obtain ⟨K1, h1, R1, X1, p, l, e, R, s, m, args, below, meth, c⟩ := M
  obtain ⟨⟨rfl, rfl, rfl, rfl, rfl⟩, hx, hb, hml, hown, hr, hlk, hts, F, hW, hR, hs0, hb0, hnm, htab⟩ := X
  intro H locs la hH hlo hla hg
  cases v with
  | null => exact lv_astoreN hx hb hd  hla.has (by show (14 : Nat) < _; simp) rfl (fun la' h' => k H locs la' hH hlo (jl.st1 (ls := x0 :: x1 :: x2 :: x3 :: x4 :: x5 :: x6 :: x7 :: x8 :: x9 :: x10 :: x11 :: x12 :: x13 :: y :: r) (x0 :: x1 :: x2 :: x3 :: x4 :: x5 :: x6 :: x7 :: x8 :: x9 :: x10 :: x11 :: x12 :: x13 :: some (.null) :: r) rfl h' (by
      intro j w hj
      match j, hj with
      | 0, hj => exact Or.inr ⟨by decide, hj, fun q => absurd q (by decide)⟩
      | 1, hj => exact Or.inr ⟨by decide, hj, fun q => absurd q (by decide)⟩
      | 2, hj => exact Or.inr ⟨by decide, hj, fun q => absurd q (by decide)⟩
      | 3, hj => exact Or.inr ⟨by decide, hj, fun q => absurd q (by decide)⟩
      | 4, hj => exact Or.inr ⟨by decide, hj, fun q => absurd q (by decide)⟩
      | 5, hj => exact Or.inr ⟨by decide, hj, fun q => absurd q (by decide)⟩
      | 6, hj => exact Or.inr ⟨by decide, hj, fun q => absurd q (by decide)⟩
      | 7, hj => exact Or.inr ⟨by decide, hj, fun q => absurd q (by decide)⟩
      | 8, hj => exact Or.inr ⟨by decide, hj, fun q => absurd q (by decide)⟩
      | 9, hj => exact Or.inr ⟨by decide, hj, fun q => absurd q (by decide)⟩
      | 10, hj => exact Or.inr ⟨by decide, hj, fun q => absurd q (by decide)⟩
      | 11, hj => exact Or.inr ⟨by decide, hj, fun q => absurd q (by decide)⟩
      | 12, hj => exact Or.inr ⟨by decide, hj, fun q => absurd q (by decide)⟩
      | 13, hj => exact Or.inr ⟨by decide, hj, fun _ => jcat_ne hc (Option.some.inj hj)⟩
      | 14, hj => exact Or.inl ⟨rfl, (Option.some.inj (Option.some.inj hj)).symm⟩
      | j + 15, hj => exact Or.inr ⟨by omega, hj, fun q => absurd q (by omega)⟩)) hg)
  | ref a => exact lv_astore hx hb hd  hla.has (by show (14 : Nat) < _; simp) rfl (fun la' h' => k H locs la' hH hlo (jl.st1 (ls := x0 :: x1 :: x2 :: x3 :: x4 :: x5 :: x6 :: x7 :: x8 :: x9 :: x10 :: x11 :: x12 :: x13 :: y :: r) (x0 :: x1 :: x2 :: x3 :: x4 :: x5 :: x6 :: x7 :: x8 :: x9 :: x10 :: x11 :: x12 :: x13 :: some (.ref a) :: r) rfl h' (by
      intro j w hj
      match j, hj with
      | 0, hj => exact Or.inr ⟨by decide, hj, fun q => absurd q (by decide)⟩
      | 1, hj => exact Or.inr ⟨by decide, hj, fun q => absurd q (by decide)⟩
      | 2, hj => exact Or.inr ⟨by decide, hj, fun q => absurd q (by decide)⟩
      | 3, hj => exact Or.inr ⟨by decide, hj, fun q => absurd q (by decide)⟩
      | 4, hj => exact Or.inr ⟨by decide, hj, fun q => absurd q (by decide)⟩
      | 5, hj => exact Or.inr ⟨by decide, hj, fun q => absurd q (by decide)⟩
      | 6, hj => exact Or.inr ⟨by decide, hj, fun q => absurd q (by decide)⟩
      | 7, hj => exact Or.inr ⟨by decide, hj, fun q => absurd q (by decide)⟩
      | 8, hj => exact Or.inr ⟨by decide, hj, fun q => absurd q (by decide)⟩
      | 9, hj => exact Or.inr ⟨by decide, hj, fun q => absurd q (by decide)⟩
      | 10, hj => exact Or.inr ⟨by decide, hj, fun q => absurd q (by decide)⟩
      | 11, hj => exact Or.inr ⟨by decide, hj, fun q => absurd q (by decide)⟩
      | 12, hj => exact Or.inr ⟨by decide, hj, fun q => absurd q (by decide)⟩
      | 13, hj => exact Or.inr ⟨by decide, hj, fun _ => jcat_ne hc (Option.some.inj hj)⟩
      | 14, hj => exact Or.inl ⟨rfl, (Option.some.inj (Option.some.inj hj)).symm⟩
      | j + 15, hj => exact Or.inr ⟨by omega, hj, fun q => absurd q (by omega)⟩)) hg)
  | _ => cases hv
theorem J.iinc14 {x0 x1 x2 x3 x4 x5 x6 x7 x8 x9 x10 x11 x12 x13 : Option Value} {r : List (Option Value)} {x : Int32} {n : Int} {d : Int32} (X : JX M K l0 cc own nL ret nm hh lv h0 QR QX) (hd : decode cc pc = .ok (.iinc 14 n, 3)) (he : Int32.ofInt n = d) (k : J M h (pc + 3) (x0 :: x1 :: x2 :: x3 :: x4 :: x5 :: x6 :: x7 :: x8 :: x9 :: x10 :: x11 :: x12 :: x13 :: some (.int (x + d)) :: r) st) (hc : jcat x13 = true := by first | rfl | exact jcat_rf _) : J M h pc (x0 :: x1 :: x2 :: x3 :: x4 :: x5 :: x6 :: x7 :: x8 :: x9 :: x10 :: x11 :: x12 :: x13 :: some (.int x) :: r) st := by
  obtain ⟨K1, h1, R1, X1, p, l, e, R, s, m, args, below, meth, c⟩ := M
  obtain ⟨⟨rfl, rfl, rfl, rfl, rfl⟩, hx, hb, hml, hown, hr, hlk, hts, F, hW, hR, hs0, hb0, hnm, htab⟩ := X
  intro H locs la hH hlo hla hg
  subst he
  obtain ⟨p0, hp0⟩ := List.mem_iff_getElem?.mp (jlv_mem.mpr (show (x0 :: x1 :: x2 :: x3 :: x4 :: x5 :: x6 :: x7 :: x8 :: x9 :: x10 :: x11 :: x12 :: x13 :: some (.int x) :: r)[14]? = some (some (Value.int x)) from rfl))
  exact lv_iinc hx hb hd hla.has hp0 rfl (by simp) rfl (fun la' h' => k H locs la' hH hlo (jl.st1 (ls := x0 :: x1 :: x2 :: x3 :: x4 :: x5 :: x6 :: x7 :: x8 :: x9 :: x10 :: x11 :: x12 :: x13 :: some (.int x) :: r) (x0 :: x1 :: x2 :: x3 :: x4 :: x5 :: x6 :: x7 :: x8 :: x9 :: x10 :: x11 :: x12 :: x13 :: some (.int (x + Int32.ofInt n)) :: r) rfl h' (by
    intro j w hj
    match j, hj with
    | 0, hj => exact Or.inr ⟨by decide, hj, fun q => absurd q (by decide)⟩
    | 1, hj => exact Or.inr ⟨by decide, hj, fun q => absurd q (by decide)⟩
    | 2, hj => exact Or.inr ⟨by decide, hj, fun q => absurd q (by decide)⟩
    | 3, hj => exact Or.inr ⟨by decide, hj, fun q => absurd q (by decide)⟩
    | 4, hj => exact Or.inr ⟨by decide, hj, fun q => absurd q (by decide)⟩
    | 5, hj => exact Or.inr ⟨by decide, hj, fun q => absurd q (by decide)⟩
    | 6, hj => exact Or.inr ⟨by decide, hj, fun q => absurd q (by decide)⟩
    | 7, hj => exact Or.inr ⟨by decide, hj, fun q => absurd q (by decide)⟩
    | 8, hj => exact Or.inr ⟨by decide, hj, fun q => absurd q (by decide)⟩
    | 9, hj => exact Or.inr ⟨by decide, hj, fun q => absurd q (by decide)⟩
    | 10, hj => exact Or.inr ⟨by decide, hj, fun q => absurd q (by decide)⟩
    | 11, hj => exact Or.inr ⟨by decide, hj, fun q => absurd q (by decide)⟩
    | 12, hj => exact Or.inr ⟨by decide, hj, fun q => absurd q (by decide)⟩
    | 13, hj => exact Or.inr ⟨by decide, hj, fun _ => jcat_ne hc (Option.some.inj hj)⟩
    | 14, hj => exact Or.inl ⟨rfl, (Option.some.inj (Option.some.inj hj)).symm⟩
    | j + 15, hj => exact Or.inr ⟨by omega, hj, fun q => absurd q (by omega)⟩)) hg)
theorem J.lstore14 {x0 x1 x2 x3 x4 x5 x6 x7 x8 x9 x10 x11 x12 x13 : Option Value} {r : List (Option Value)} {v : Int64} {y z : Option Value} (X : JX M K l0 cc own nL ret nm hh lv h0 QR QX) (hd : decode cc pc = .ok (.lstore 14, 2)) (k : J M h (pc + 2) (x0 :: x1 :: x2 :: x3 :: x4 :: x5 :: x6 :: x7 :: x8 :: x9 :: x10 :: x11 :: x12 :: x13 :: some (.long v) :: none :: r) st) (hc : jcat x13 = true := by first | rfl | exact jcat_rf _) : J M h pc (x0 :: x1 :: x2 :: x3 :: x4 :: x5 :: x6 :: x7 :: x8 :: x9 :: x10 :: x11 :: x12 :: x13 :: y :: z :: r) (.long v :: st) := by
  obtain ⟨K1, h1, R1, X1, p, l, e, R, s, m, args, below, meth, c⟩ := M
  obtain ⟨⟨rfl, rfl, rfl, rfl, rfl⟩, hx, hb, hml, hown, hr, hlk, hts, F, hW, hR, hs0, hb0, hnm, htab⟩ := X
  intro H locs la hH hlo hla hg
  exact lv_lstore hx hb hd  hla.has (by show (14 : Nat) + 1 < _; simp) rfl (fun la' h' => k H locs la' hH hlo (jl.st2 (ls := x0 :: x1 :: x2 :: x3 :: x4 :: x5 :: x6 :: x7 :: x8 :: x9 :: x10 :: x11 :: x12 :: x13 :: y :: z :: r) (x0 :: x1 :: x2 :: x3 :: x4 :: x5 :: x6 :: x7 :: x8 :: x9 :: x10 :: x11 :: x12 :: x13 :: some (.long v) :: none :: r) rfl h' (by
    intro j w hj
    match j, hj with
    | 0, hj => exact Or.inr ⟨by decide, by decide, hj, fun q => absurd q (by decide)⟩
    | 1, hj => exact Or.inr ⟨by decide, by decide, hj, fun q => absurd q (by decide)⟩
    | 2, hj => exact Or.inr ⟨by decide, by decide, hj, fun q => absurd q (by decide)⟩
    | 3, hj => exact Or.inr ⟨by decide, by decide, hj, fun q => absurd q (by decide)⟩
    | 4, hj => exact Or.inr ⟨by decide, by decide, hj, fun q => absurd q (by decide)⟩
    | 5, hj => exact Or.inr ⟨by decide, by decide, hj, fun q => absurd q (by decide)⟩
    | 6, hj => exact Or.inr ⟨by decide, by decide, hj, fun q => absurd q (by decide)⟩
    | 7, hj => exact Or.inr ⟨by decide, by decide, hj, fun q => absurd q (by decide)⟩
    | 8, hj => exact Or.inr ⟨by decide, by decide, hj, fun q => absurd q (by decide)⟩
    | 9, hj => exact Or.inr ⟨by decide, by decide, hj, fun q => absurd q (by decide)⟩
    | 10, hj => exact Or.inr ⟨by decide, by decide, hj, fun q => absurd q (by decide)⟩
    | 11, hj => exact Or.inr ⟨by decide, by decide, hj, fun q => absurd q (by decide)⟩
    | 12, hj => exact Or.inr ⟨by decide, by decide, hj, fun q => absurd q (by decide)⟩
    | 13, hj => exact Or.inr ⟨by decide, by decide, hj, fun _ => jcat_ne hc (Option.some.inj hj)⟩
    | 14, hj => exact Or.inl ⟨rfl, (Option.some.inj (Option.some.inj hj)).symm⟩
    | 15, hj => cases hj
    | j + 16, hj => exact Or.inr ⟨by omega, by omega, hj, fun q => absurd q (by omega)⟩)) hg)
theorem J.iload15 {x0 x1 x2 x3 x4 x5 x6 x7 x8 x9 x10 x11 x12 x13 x14 : Option Value} {r : List (Option Value)} {v : Int32} (X : JX M K l0 cc own nL ret nm hh lv h0 QR QX) (hd : decode cc pc = .ok (.iload 15, 2)) (k : J M h (pc + 2) (x0 :: x1 :: x2 :: x3 :: x4 :: x5 :: x6 :: x7 :: x8 :: x9 :: x10 :: x11 :: x12 :: x13 :: x14 :: some (.int v) :: r) (.int v :: st))  : J M h pc (x0 :: x1 :: x2 :: x3 :: x4 :: x5 :: x6 :: x7 :: x8 :: x9 :: x10 :: x11 :: x12 :: x13 :: x14 :: some (.int v) :: r) st := by
  obtain ⟨K1, h1, R1, X1, p, l, e, R, s, m, args, below, meth, c⟩ := M
  obtain ⟨⟨rfl, rfl, rfl, rfl, rfl⟩, hx, hb, hml, hown, hr, hlk, hts, F, hW, hR, hs0, hb0, hnm, htab⟩ := X
  intro H locs la hH hlo hla hg
  exact lv_iload hx hb hd  (hla.2.2 15 _ rfl) (k H locs la hH hlo hla hg)
theorem J.lload15 {x0 x1 x2 x3 x4 x5 x6 x7 x8 x9 x10 x11 x12 x13 x14 : Option Value} {r : List (Option Value)} {v : Int64} (X : JX M K l0 cc own nL ret nm hh lv h0 QR QX) (hd : decode cc pc = .ok (.lload 15, 2)) (k : J M h (pc + 2) (x0 :: x1 :: x2 :: x3 :: x4 :: x5 :: x6 :: x7 :: x8 :: x9 :: x10 :: x11 :: x12 :: x13 :: x14 :: some (.long v) :: r) (.long v :: st))  : J M h pc (x0 :: x1 :: x2 :: x3 :: x4 :: x5 :: x6 :: x7 :: x8 :: x9 :: x10 :: x11 :: x12 :: x13 :: x14 :: some (.long v) :: r) st := by
  obtain ⟨K1, h1, R1, X1, p, l, e, R, s, m, args, below, meth, c⟩ := M
  obtain ⟨⟨rfl, rfl, rfl, rfl, rfl⟩, hx, hb, hml, hown, hr, hlk, hts, F, hW, hR, hs0, hb0, hnm, htab⟩ := X
  intro H locs la hH hlo hla hg
  exact lv_lload hx hb hd  (hla.2.2 15 _ rfl) (k H locs la hH hlo hla hg)
theorem J.aload15 {x0 x1 x2 x3 x4 x5 x6 x7 x8 x9 x10 x11 x12 x13 x14 : Option Value} {r : List (Option Value)} {v : Value} (X : JX M K l0 cc own nL ret nm hh lv h0 QR QX) (hd : decode cc pc = .ok (.aload 15, 2)) (k : J M h (pc + 2) (x0 :: x1 :: x2 :: x3 :: x4 :: x5 :: x6 :: x7 :: x8 :: x9 :: x10 :: x11 :: x12 :: x13 :: x14 :: some (v) :: r) (v :: st)) (hv : jref v = true := by first | rfl | exact jref_rf _) : J M h pc (x0 :: x1 :: x2 :: x3 :: x4 :: x5 :: x6 :: x7 :: x8 :: x9 :: x10 :: x11 :: x12 :: x13 :: x14 :: some (v) :: r) st := by
  obtain ⟨K1, h1, R1, X1, p, l, e, R, s, m, args, below, meth, c⟩ := M
  obtain ⟨⟨rfl, rfl, rfl, rfl, rfl⟩, hx, hb, hml, hown, hr, hlk, hts, F, hW, hR, hs0, hb0, hnm, htab⟩ := X
  intro H locs la hH hlo hla hg
  cases v with
  | null => exact lv_aloadN hx hb hd  (hla.2.2 15 _ rfl) (k H locs la hH hlo hla hg)
  | ref a => exact lv_aload hx hb hd  (hla.2.2 15 _ rfl) (k H locs la hH hlo hla hg)
  | _ => cases hv
theorem J.istore15 {x0 x1 x2 x3 x4 x5 x6 x7 x8 x9 x10 x11 x12 x13 x14 : Option Value} {r : List (Option Value)} {v : Int32} {y : Option Value} (X : JX M K l0 cc own nL ret nm hh lv h0 QR QX) (hd : decode cc pc = .ok (.istore 15, 2)) (k : J M h (pc + 2) (x0 :: x1 :: x2 :: x3 :: x4 :: x5 :: x6 :: x7 :: x8 :: x9 :: x10 :: x11 :: x12 :: x13 :: x14 :: some (.int v) :: r) st)  (hc : jcat x14 = true := by first | rfl | exact jcat_rf _) : J M h pc (x0 :: x1 :: x2 :: x3 :: x4 :: x5 :: x6 :: x7 :: x8 :: x9 :: x10 :: x11 :: x12 :: x13 :: x14 :: y :: r) (.int v :: st) := by
  obtain ⟨K1, h1, R1, X1, p, l, e, R, s, m, args, below, meth, c⟩ := M
  obtain ⟨⟨rfl, rfl, rfl, rfl, rfl⟩, hx, hb, hml, hown, hr, hlk, hts, F, hW, hR, hs0, hb0, hnm, htab⟩ := X
  intro H locs la hH hlo hla hg
  exact lv_istore hx hb hd  hla.has (by show (15 : Nat) < _; simp) rfl (fun la' h' => k H locs la' hH hlo (jl.st1 (ls := x0 :: x1 :: x2 :: x3 :: x4 :: x5 :: x6 :: x7 :: x8 :: x9 :: x10 :: x11 :: x12 :: x13 :: x14 :: y :: r) (x0 :: x1 :: x2 :: x3 :: x4 :: x5 :: x6 :: x7 :: x8 :: x9 :: x10 :: x11 :: x12 :: x13 :: x14 :: some (.int v) :: r) rfl h' (by
    intro j w hj
    match j, hj with
    | 0, hj => exact Or.inr ⟨by decide, hj, fun q => absurd q (by decide)⟩
    | 1, hj => exact Or.inr ⟨by decide, hj, fun q => absurd q (by decide)⟩
    | 2, hj => exact Or.inr ⟨by decide, hj, fun q => absurd q (by decide)⟩
    | 3, hj => exact Or.inr ⟨by decide, hj, fun q => absurd q (by decide)⟩
    | 4, hj => exact Or.inr ⟨by decide, hj, fun q => absurd q (by decide)⟩
    | 5, hj => exact Or.inr ⟨by decide, hj, fun q => absurd q (by decide)⟩
    | 6, hj => exact Or.inr ⟨by decide, hj, fun q => absurd q (by decide)⟩
    | 7, hj => exact Or.inr ⟨by decide, hj, fun q => absurd q (by decide)⟩
    | 8, hj => exact Or.inr ⟨by decide, hj, fun q => absurd q (by decide)⟩
    | 9, hj => exact Or.inr ⟨by decide, hj, fun q => absurd q (by decide)⟩
    | 10, hj => exact Or.inr ⟨by decide, hj, fun q => absurd q (by decide)⟩
    | 11, hj => exact Or.inr ⟨by decide, hj, fun q => absurd q (by decide)⟩
    | 12, hj => exact Or.inr ⟨by decide, hj, fun q => absurd q (by decide)⟩
    | 13, hj => exact Or.inr ⟨by decide, hj, fun q => absurd q (by decide)⟩
    | 14, hj => exact Or.inr ⟨by decide, hj, fun _ => jcat_ne hc (Option.some.inj hj)⟩
    | 15, hj => exact Or.inl ⟨rfl, (Option.some.inj (Option.some.inj hj)).symm⟩
    | j + 16, hj => exact Or.inr ⟨by omega, hj, fun q => absurd q (by omega)⟩)) hg)
theorem J.astore15 {x0 x1 x2 x3 x4 x5 x6 x7 x8 x9 x10 x11 x12 x13 x14 : Option Value} {r : List (Option Value)} {v : Value} {y : Option Value} (X : JX M K l0 cc own nL ret nm hh lv h0 QR QX) (hd : decode cc pc = .ok (.astore 15, 2)) (k : J M h (pc + 2) (x0 :: x1 :: x2 :: x3 :: x4 :: x5 :: x6 :: x7 :: x8 :: x9 :: x10 :: x11 :: x12 :: x13 :: x14 :: some (v) :: r) st) (hv : jref v = true := by first | rfl | exact jref_rf _) (hc : jcat x14 = true := by first | rfl | exact jcat_rf _) : J M h pc (x0 :: x1 :: x2 :: x3 :: x4 :: x5 :: x6 :: x7 :: x8 :: x9 :: x10 :: x11 :: x12 :: x13 :: x14 :: y :: r) (v :: st) := by
  obtain ⟨K1, h1, R1, X1, p, l, e, R, s, m, args, below, meth, c⟩ := M
  obtain ⟨⟨rfl, rfl, rfl, rfl, rfl⟩, hx, hb, hml, hown, hr, hlk, hts, F, hW, hR, hs0, hb0, hnm, htab⟩ := X
  intro H locs la hH hlo hla hg
  cases v with
  | null => exact lv_astoreN hx hb hd  hla.has (by show (15 : Nat) < _; simp) rfl (fun la' h' => k H locs la' hH hlo (jl.st1 (ls := x0 :: x1 :: x2 :: x3 :: x4 :: x5 :: x6 :: x7 :: x8 :: x9 :: x10 :: x11 :: x12 :: x13 :: x14 :: y :: r) (x0 :: x1 :: x2 :: x3 :: x4 :: x5 :: x6 :: x7 :: x8 :: x9 :: x10 :: x11 :: x12 :: x13 :: x14 :: some (.null) :: r) rfl h' (by
      intro j w hj
      match j, hj with
      | 0, hj => exact Or.inr ⟨by decide, hj, fun q => absurd q (by decide)⟩
      | 1, hj => exact Or.inr ⟨by decide, hj, fun q => absurd q (by decide)⟩
      | 2, hj => exact Or.inr ⟨by decide, hj, fun q => absurd q (by decide)⟩
      | 3, hj => exact Or.inr ⟨by decide, hj, fun q => absurd q (by decide)⟩
      | 4, hj => exact Or.inr ⟨by decide, hj, fun q => absurd q (by decide)⟩
      | 5, hj => exact Or.inr ⟨by decide, hj, fun q => absurd q (by decide)⟩
      | 6, hj => exact Or.inr ⟨by decide, hj, fun q => absurd q (by decide)⟩
      | 7, hj => exact Or.inr ⟨by decide, hj, fun q => absurd q (by decide)⟩
      | 8, hj => exact Or.inr ⟨by decide, hj, fun q => absurd q (by decide)⟩
      | 9, hj => exact Or.inr ⟨by decide, hj, fun q => absurd q (by decide)⟩
      | 10, hj => exact Or.inr ⟨by decide, hj, fun q => absurd q (by decide)⟩
      | 11, hj => exact Or.inr ⟨by decide, hj, fun q => absurd q (by decide)⟩
      | 12, hj => exact Or.inr ⟨by decide, hj, fun q => absurd q (by decide)⟩
      | 13, hj => exact Or.inr ⟨by decide, hj, fun q => absurd q (by decide)⟩
      | 14, hj => exact Or.inr ⟨by decide, hj, fun _ => jcat_ne hc (Option.some.inj hj)⟩
      | 15, hj => exact Or.inl ⟨rfl, (Option.some.inj (Option.some.inj hj)).symm⟩
      | j + 16, hj => exact Or.inr ⟨by omega, hj, fun q => absurd q (by omega)⟩)) hg)
  | ref a => exact lv_astore hx hb hd  hla.has (by show (15 : Nat) < _; simp) rfl (fun la' h' => k H locs la' hH hlo (jl.st1 (ls := x0 :: x1 :: x2 :: x3 :: x4 :: x5 :: x6 :: x7 :: x8 :: x9 :: x10 :: x11 :: x12 :: x13 :: x14 :: y :: r) (x0 :: x1 :: x2 :: x3 :: x4 :: x5 :: x6 :: x7 :: x8 :: x9 :: x10 :: x11 :: x12 :: x13 :: x14 :: some (.ref a) :: r) rfl h' (by
      intro j w hj
      match j, hj with
      | 0, hj => exact Or.inr ⟨by decide, hj, fun q => absurd q (by decide)⟩
      | 1, hj => exact Or.inr ⟨by decide, hj, fun q => absurd q (by decide)⟩
      | 2, hj => exact Or.inr ⟨by decide, hj, fun q => absurd q (by decide)⟩
      | 3, hj => exact Or.inr ⟨by decide, hj, fun q => absurd q (by decide)⟩
      | 4, hj => exact Or.inr ⟨by decide, hj, fun q => absurd q (by decide)⟩
      | 5, hj => exact Or.inr ⟨by decide, hj, fun q => absurd q (by decide)⟩
      | 6, hj => exact Or.inr ⟨by decide, hj, fun q => absurd q (by decide)⟩
      | 7, hj => exact Or.inr ⟨by decide, hj, fun q => absurd q (by decide)⟩
      | 8, hj => exact Or.inr ⟨by decide, hj, fun q => absurd q (by decide)⟩
      | 9, hj => exact Or.inr ⟨by decide, hj, fun q => absurd q (by decide)⟩
      | 10, hj => exact Or.inr ⟨by decide, hj, fun q => absurd q (by decide)⟩
      | 11, hj => exact Or.inr ⟨by decide, hj, fun q => absurd q (by decide)⟩
      | 12, hj => exact Or.inr ⟨by decide, hj, fun q => absurd q (by decide)⟩
      | 13, hj => exact Or.inr ⟨by decide, hj, fun q => absurd q (by decide)⟩
      | 14, hj => exact Or.inr ⟨by decide, hj, fun _ => jcat_ne hc (Option.some.inj hj)⟩
      | 15, hj => exact Or.inl ⟨rfl, (Option.some.inj (Option.some.inj hj)).symm⟩
      | j + 16, hj => exact Or.inr ⟨by omega, hj, fun q => absurd q (by omega)⟩)) hg)
  | _ => cases hv
theorem J.iinc15 {x0 x1 x2 x3 x4 x5 x6 x7 x8 x9 x10 x11 x12 x13 x14 : Option Value} {r : List (Option Value)} {x : Int32} {n : Int} {d : Int32} (X : JX M K l0 cc own nL ret nm hh lv h0 QR QX) (hd : decode cc pc = .ok (.iinc 15 n, 3)) (he : Int32.ofInt n = d) (k : J M h (pc + 3) (x0 :: x1 :: x2 :: x3 :: x4 :: x5 :: x6 :: x7 :: x8 :: x9 :: x10 :: x11 :: x12 :: x13 :: x14 :: some (.int (x + d)) :: r) st) (hc : jcat x14 = true := by first | rfl | exact jcat_rf _) : J M h pc (x0 :: x1 :: x2 :: x3 :: x4 :: x5 :: x6 :: x7 :: x8 :: x9 :: x10 :: x11 :: x12 :: x13 :: x14 :: some (.int x) :: r) st := by
  obtain ⟨K1, h1, R1, X1, p, l, e, R, s, m, args, below, meth, c⟩ := M
  obtain ⟨⟨rfl, rfl, rfl, rfl, rfl⟩, hx, hb, hml, hown, hr, hlk, hts, F, hW, hR, hs0, hb0, hnm, htab⟩ := X
  intro H locs la hH hlo hla hg
  subst he
  obtain ⟨p0, hp0⟩ := List.mem_iff_getElem?.mp (jlv_mem.mpr (show (x0 :: x1 :: x2 :: x3 :: x4 :: x5 :: x6 :: x7 :: x8 :: x9 :: x10 :: x11 :: x12 :: x13 :: x14 :: some (.int x) :: r)[15]? = some (some (Value.int x)) from rfl))
  exact lv_iinc hx hb hd hla.has hp0 rfl (by simp) rfl (fun la' h' => k H locs la' hH hlo (jl.st1 (ls := x0 :: x1 :: x2 :: x3 :: x4 :: x5 :: x6 :: x7 :: x8 :: x9 :: x10 :: x11 :: x12 :: x13 :: x14 :: some (.int x) :: r) (x0 :: x1 :: x2 :: x3 :: x4 :: x5 :: x6 :: x7 :: x8 :: x9 :: x10 :: x11 :: x12 :: x13 :: x14 :: some (.int (x + Int32.ofInt n)) :: r) rfl h' (by
    intro j w hj
    match j, hj with
    | 0, hj => exact Or.inr ⟨by decide, hj, fun q => absurd q (by decide)⟩
    | 1, hj => exact Or.inr ⟨by decide, hj, fun q => absurd q (by decide)⟩
    | 2, hj => exact Or.inr ⟨by decide, hj, fun q => absurd q (by decide)⟩
    | 3, hj => exact Or.inr ⟨by decide, hj, fun q => absurd q (by decide)⟩
    | 4, hj => exact Or.inr ⟨by decide, hj, fun q => absurd q (by decide)⟩
    | 5, hj => exact Or.inr ⟨by decide, hj, fun q => absurd q (by decide)⟩
    | 6, hj => exact Or.inr ⟨by decide, hj, fun q => absurd q (by decide)⟩
    | 7, hj => exact Or.inr ⟨by decide, hj, fun q => absurd q (by decide)⟩
    | 8, hj => exact Or.inr ⟨by decide, hj, fun q => absurd q (by decide)⟩
    | 9, hj => exact Or.inr ⟨by decide, hj, fun q => absurd q (by decide)⟩
    | 10, hj => exact Or.inr ⟨by decide, hj, fun q => absurd q (by decide)⟩
    | 11, hj => exact Or.inr ⟨by decide, hj, fun q => absurd q (by decide)⟩
    | 12, hj => exact Or.inr ⟨by decide, hj, fun q => absurd q (by decide)⟩
    | 13, hj => exact Or.inr ⟨by decide, hj, fun q => absurd q (by decide)⟩
    | 14, hj => exact Or.inr ⟨by decide, hj, fun _ => jcat_ne hc (Option.some.inj hj)⟩
    | 15, hj => exact Or.inl ⟨rfl, (Option.some.inj (Option.some.inj hj)).symm⟩
    | j + 16, hj => exact Or.inr ⟨by omega, hj, fun q => absurd q (by omega)⟩)) hg)
end JR
