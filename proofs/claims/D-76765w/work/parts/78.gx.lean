/-! THE WHOLE SegmentedCache IN THE HEAP. Tags: 8 the object, 2 the list of traces, 100 + i trace i, 12 clauses, 60 text, 61 62 book, 63 64 the image's book, 65 tapes, 70 + i tape i, 48 + i its row -/
abbrev GA : Type := AX × AX × Nat × (List (Nat × Nat)) × (List (Nat × Nat)) × (List Nat) × (List (List Cl)) × (Nat → Option (Nat × Nat × (Nat → Int64)))
abbrev GA.x (g : GA) : AX := g.1
abbrev GA.xi (g : GA) : AX := g.2.1
abbrev GA.hi (g : GA) : Nat := g.2.2.1
abbrev GA.bk (g : GA) : List (Nat × Nat) := g.2.2.2.1
abbrev GA.ib (g : GA) : List (Nat × Nat) := g.2.2.2.2.1
abbrev GA.tx (g : GA) : List Nat := g.2.2.2.2.2.1
abbrev GA.cls (g : GA) : List (List Cl) := g.2.2.2.2.2.2.1
abbrev GA.tp (g : GA) : Nat → Option (Nat × Nat × (Nat → Int64)) := g.2.2.2.2.2.2.2
abbrev GA.wx (g : GA) (v : AX) : GA := (v, g.2.1, g.2.2.1, g.2.2.2.1, g.2.2.2.2.1, g.2.2.2.2.2.1, g.2.2.2.2.2.2.1, g.2.2.2.2.2.2.2)
abbrev GA.wxi (g : GA) (v : AX) : GA := (g.1, v, g.2.2.1, g.2.2.2.1, g.2.2.2.2.1, g.2.2.2.2.2.1, g.2.2.2.2.2.2.1, g.2.2.2.2.2.2.2)
abbrev GA.whi (g : GA) (v : Nat) : GA := (g.1, g.2.1, v, g.2.2.2.1, g.2.2.2.2.1, g.2.2.2.2.2.1, g.2.2.2.2.2.2.1, g.2.2.2.2.2.2.2)
abbrev GA.wbk (g : GA) (v : List (Nat × Nat)) : GA := (g.1, g.2.1, g.2.2.1, v, g.2.2.2.2.1, g.2.2.2.2.2.1, g.2.2.2.2.2.2.1, g.2.2.2.2.2.2.2)
abbrev GA.wib (g : GA) (v : List (Nat × Nat)) : GA := (g.1, g.2.1, g.2.2.1, g.2.2.2.1, v, g.2.2.2.2.2.1, g.2.2.2.2.2.2.1, g.2.2.2.2.2.2.2)
abbrev GA.wtx (g : GA) (v : List Nat) : GA := (g.1, g.2.1, g.2.2.1, g.2.2.2.1, g.2.2.2.2.1, v, g.2.2.2.2.2.2.1, g.2.2.2.2.2.2.2)
abbrev GA.wcls (g : GA) (v : List (List Cl)) : GA := (g.1, g.2.1, g.2.2.1, g.2.2.2.1, g.2.2.2.2.1, g.2.2.2.2.2.1, v, g.2.2.2.2.2.2.2)
abbrev GA.wtp (g : GA) (v : Nat → Option (Nat × Nat × (Nat → Int64))) : GA := (g.1, g.2.1, g.2.2.1, g.2.2.2.1, g.2.2.2.2.1, g.2.2.2.2.2.1, g.2.2.2.2.2.2.1, v)
abbrev GP : Type := Nat × CY × Nat × CY × Nat × Nat × Nat × Nat × Nat × Nat × Nat × Nat × Nat × (Nat → Nat)
abbrev GP.c (g : GP) : Nat := g.1
abbrev GP.y (g : GP) : CY := g.2.1
abbrev GP.ci (g : GP) : Nat := g.2.2.1
abbrev GP.yi (g : GP) : CY := g.2.2.2.1
abbrev GP.b3 (g : GP) : Nat := g.2.2.2.2.1
abbrev GP.b4 (g : GP) : Nat := g.2.2.2.2.2.1
abbrev GP.tx (g : GP) : Nat := g.2.2.2.2.2.2.1
abbrev GP.tl (g : GP) : Nat := g.2.2.2.2.2.2.2.1
abbrev GP.bk (g : GP) : Nat := g.2.2.2.2.2.2.2.2.1
abbrev GP.bw (g : GP) : Nat := g.2.2.2.2.2.2.2.2.2.1
abbrev GP.ibk (g : GP) : Nat := g.2.2.2.2.2.2.2.2.2.2.1
abbrev GP.ibw (g : GP) : Nat := g.2.2.2.2.2.2.2.2.2.2.2.1
abbrev GP.tp (g : GP) : Nat := g.2.2.2.2.2.2.2.2.2.2.2.2.1
abbrev GP.tpa (g : GP) : Nat → Nat := g.2.2.2.2.2.2.2.2.2.2.2.2.2
def x0O (p : GP) (g : GA) : List Value := [.ref p.c, .ref p.b3, .ref p.b4, .ref p.tx, .int (nI g.tx.length), .ref p.tl, .ref p.bk, .ref p.bw, .int (nI g.bk.length), .ref p.tp, .ref p.ci, .ref p.ibk, .ref p.ibw, .int (nI g.ib.length), .int (nI g.hi)]
def GT (K : JK) (h : JIH) (a : Nat) (tx : List Nat) : Prop := ∃ f, hc h 60 a (jA K 1 100 f) ∧ (∀ i v, tx[i]? = some v → f i = nI v ∧ v < 128) ∧ tx.length ≤ 100
def GC (h : JIH) (a : Nat) (cls : List (List Cl)) : Prop := ∃ (ns : List Nat) (it : Nat → Nat) (mc : Int32), LL 2 h a ns it mc ∧ ns.length = cls.length ∧ cls.length ≤ 6 ∧ ∀ i n c, ns[i]? = some n → cls[i]? = some c → TR (100 + i) h (it n) c
def GB (K : JK) (h : JIH) (t a w : Nat) (bk : List (Nat × Nat)) : Prop := ∃ (f : Nat → Option Nat) (v : Nat → Int32), hc h t a (jAR K 7 8 f) ∧ hc h (t + 1) w (jA K 0 8 v) ∧ (∀ i q, bk[i]? = some q → v i = nI q.2 ∧ q.2 ≤ 4 ∧ ∃ b, f i = some b ∧ IsKey h b q.1) ∧ (∀ i b, f i = some b → ∃ k, IsKey h b k) ∧ bk.length ≤ 8
/-- a tape's row -/
def GV (K : JK) (h : JIH) (t : Nat) : Option Nat → Option (Nat × Nat × (Nat → Int64)) → Prop
  | none, q => q = none
  | some a, q => ∃ so n v, q = some (so, n, v) ∧ n ≤ 60 ∧ ((so = 0 ∧ ∃ f, hc h t a (jA K 1 n f) ∧ ∀ i, i < n → v i = (f i).toInt64 ∧ fits .byte (.int (f i)) = true) ∨ (so = 1 ∧ ∃ f, hc h t a (jA K 2 n f) ∧ ∀ i, i < n → v i = (f i).toInt64 ∧ fits .short (.int (f i)) = true) ∨ (so = 2 ∧ ∃ f, hc h t a (jA K 0 n f) ∧ ∀ i, i < n → v i = (f i).toInt64) ∨ (so = 3 ∧ ∃ f, hc h t a (jAL K n f) ∧ ∀ i, i < n → v i = f i) ∨ (so = 4 ∧ ∃ f, hc h t a (jA K 4 n f) ∧ ∀ i, i < n → v i = (f i).toInt64 ∧ fits .boolean (.int (f i)) = true))
def GW (K : JK) (h : JIH) (p : GP) (tp : Nat → Option (Nat × Nat × (Nat → Int64))) : Prop := (∃ f, hc h 65 p.tp (jAR K 9 6 f) ∧ ∀ i, i < 6 → f i = some (p.tpa i)) ∧ ∀ i, i < 6 → ∃ r, hc h (70 + i) (p.tpa i) (jO 4 [va_rf r]) ∧ GV K h (48 + i) r (tp i)
def GX (K : JK) (h : JIH) (o : Nat) (p : GP) (g : GA) (tz tzi : Nat) : Prop :=
  hc h 8 o (jO 0 (x0O p g)) ∧ (∃ ta D, CC K 16 h p.c p.y g.x.1 g.x.2.1 g.x.2.2 ta D tz) ∧ (∃ ta D, CC K 32 h p.ci p.yi g.xi.1 g.xi.2.1 g.xi.2.2 ta D tzi) ∧ SZ K 3 h p.b3 ∧ SZ K 4 h p.b4 ∧ GT K h p.tx g.tx ∧ GC h p.tl g.cls ∧ GB K h 61 p.bk p.bw g.bk ∧ GB K h 63 p.ibk p.ibw g.ib ∧ GW K h p g.tp ∧ BC g.x.2.1 ∧ BC g.xi.2.1 ∧ g.hi ≤ 1
def gS (z : Nat) : Prop := CT 16 z ∨ z = 7 ∨ z = 9 ∨ z = 3 ∨ z = 4
theorem gS.ne {z : Nat} (h : gS z) : z ≠ 1 ∧ z ≠ 2 ∧ z ≠ 8 ∧ z ≠ 12 ∧ z < 33 := by
  unfold gS CT at h
  omega
theorem gS.not {z : Nat} (h : z = 1 ∨ z = 2 ∨ z = 8 ∨ z = 12 ∨ 33 ≤ z) : ¬ gS z := fun q => by
  have := q.ne
  omega
section
variable {K : JK} {h h' : JIH} {T : Nat → Prop}
theorem GT.fr {a : Nat} {tx : List Nat} (S : GT K h a tx) (f : Fr T h h') (ht : ¬ T 60) : GT K h' a tx := by
  obtain ⟨q, c, r⟩ := S
  exact ⟨q, c.fr f ht, r⟩
theorem GC.fr {a : Nat} {cls : List (List Cl)} (S : GC h a cls) (f : Fr T h h') (h1 : ¬ T 1) (h2 : ¬ T 2) (h12 : ¬ T 12) (h100 : ∀ i, i < 6 → ¬ T (100 + i)) : GC h' a cls := by
  obtain ⟨ns, it, mc, L, e1, e2, r⟩ := S
  refine ⟨ns, it, mc, L.fr f h2, e1, e2, fun i n c a b => (r i n c a b).fr f (h100 i ?_) h1 h12⟩
  have := (List.getElem?_eq_some_iff.mp b).1
  omega
theorem GB.fr {t a w : Nat} {bk : List (Nat × Nat)} (S : GB K h t a w bk) (f : Fr T h h') (h1 : ¬ T 1) (ht : ¬ T t) (ht1 : ¬ T (t + 1)) : GB K h' t a w bk := by
  obtain ⟨q, v, c1, c2, r1, r2, r3⟩ := S
  refine ⟨q, v, c1.fr f ht, c2.fr f ht1, fun i x hx => ?_, fun i b hb => ?_, r3⟩
  · obtain ⟨z1, z2, b, z3, z4⟩ := r1 i x hx
    exact ⟨z1, z2, b, z3, z4.fr f h1⟩
  · obtain ⟨k, z⟩ := r2 i b hb
    exact ⟨k, z.fr f h1⟩
theorem GV.fr {t : Nat} {r : Option Nat} {q : Option (Nat × Nat × (Nat → Int64))} (S : GV K h t r q) (f : Fr T h h') (ht : ¬ T t) : GV K h' t r q := by
  cases r with
  | none => exact S
  | some a =>
    obtain ⟨so, n, v, e, hn, r⟩ := S
    refine ⟨so, n, v, e, hn, ?_⟩
    rcases r with ⟨e, q, c, r⟩ | ⟨e, q, c, r⟩ | ⟨e, q, c, r⟩ | ⟨e, q, c, r⟩ | ⟨e, q, c, r⟩
    · exact Or.inl ⟨e, q, c.fr f ht, r⟩
    · exact Or.inr (Or.inl ⟨e, q, c.fr f ht, r⟩)
    · exact Or.inr (Or.inr (Or.inl ⟨e, q, c.fr f ht, r⟩))
    · exact Or.inr (Or.inr (Or.inr (Or.inl ⟨e, q, c.fr f ht, r⟩)))
    · exact Or.inr (Or.inr (Or.inr (Or.inr ⟨e, q, c.fr f ht, r⟩)))
theorem GW.fr {p : GP} {tp : Nat → Option (Nat × Nat × (Nat → Int64))} (S : GW K h p tp) (f : Fr T h h') (ht : ∀ z, 48 ≤ z → z ≤ 75 → ¬ T z) : GW K h' p tp := by
  obtain ⟨⟨q, c, r⟩, S⟩ := S
  refine ⟨⟨q, c.fr f (ht _ (by decide) (by decide)), r⟩, fun i hi => ?_⟩
  obtain ⟨r, c, v⟩ := S i hi
  exact ⟨r, c.fr f (ht _ (by omega) (by omega)), v.fr f (ht _ (by omega) (by omega))⟩
/-- the cache, the sketches change alone -/
theorem GX.up {o : Nat} {p : GP} {g : GA} {tz tzi tz' : Nat} {x' : AX} (S : GX K h o p g tz tzi) (f : Fr gS h h') (c : ∃ ta D, CC K 16 h' p.c p.y x'.1 x'.2.1 x'.2.2 ta D tz') (z3 : SZ K 3 h' p.b3) (z4 : SZ K 4 h' p.b4) (hB : BC x'.2.1) : GX K h' o p (g.wx x') tz' tzi := by
  obtain ⟨s1, s2, ⟨ta, D, s3⟩, s4, s5, s6, s7, s8, s9, s10, s11, s12, s13⟩ := S
  have n1 : ¬ gS 1 := gS.not (by omega)
  have nb : ∀ z, 33 ≤ z → ¬ gS z := fun z hz => gS.not (by omega)
  exact ⟨s1.fr f (gS.not (by omega)), c, ⟨ta, D, s3.fr f (fun x a b => nb x (by omega)) n1⟩, z3, z4, s6.fr f (nb _ (by decide)), s7.fr f n1 (gS.not (by omega)) (gS.not (by omega)) (fun i _ => nb _ (by omega)), s8.fr f n1 (nb _ (by decide)) (nb _ (by decide)), s9.fr f n1 (nb _ (by decide)) (nb _ (by decide)), s10.fr f (fun z a b => nb z (by omega)), hB, s12, s13⟩
theorem GX.up0 {o : Nat} {p : GP} {g : GA} {tz tzi tz' : Nat} {x' : AX} {T : Nat → Prop} (S : GX K h o p g tz tzi) (f : Fr T h h') (hT : ∀ z, T z → CT 16 z ∨ z = 7 ∨ z = 9) (c : ∃ ta D, CC K 16 h' p.c p.y x'.1 x'.2.1 x'.2.2 ta D tz') (hB : BC x'.2.1) : GX K h' o p (g.wx x') tz' tzi := by
  have f' : Fr gS h h' := f.mono (fun z hz => by
    rcases hT z hz with q | q | q
    · exact Or.inl q
    · exact Or.inr (Or.inl q)
    · exact Or.inr (Or.inr (Or.inl q)))
  have n3 : ∀ z, z = 3 ∨ z = 4 → ¬ T z := fun z hz q => by
    have := hT z q
    unfold CT at this
    omega
  exact S.up f' c (S.2.2.2.1.fr f (n3 3 (Or.inl rfl))) (S.2.2.2.2.1.fr f (n3 4 (Or.inr rfl))) hB
theorem GX.o {o : Nat} {p : GP} {g : GA} {tz tzi : Nat} (S : GX K h o p g tz tzi) : hc h 8 o (jO 0 (x0O p g)) := S.1
theorem GX.bc {o : Nat} {p : GP} {g : GA} {tz tzi : Nat} (S : GX K h o p g tz tzi) : BC g.x.2.1 := S.2.2.2.2.2.2.2.2.2.2.1
/-- a new cell -/
theorem GX.push {o : Nat} {p : GP} {g : GA} {tz tzi : Nat} (S : GX K h o p g tz tzi) (t : Nat) (e : va_E) : GX K (hpush h t e) o p g tz tzi := by
  have f : Fr (fun x => x = 9) h (hpush h t e) := Fr.push _ _ _ _
  obtain ⟨ta, D, c⟩ := S.2.1
  exact S.up0 f (fun z hz => Or.inr (Or.inr hz)) ⟨ta, D, c.fr f (fun x a b => by omega) (by omega)⟩ S.bc
end
