/-! THE IDEAL HEAP: base, then cells behind it, each with a tag (ghost) and a content (a known cell, or so many slots of which nothing is known) -/
abbrev JC : Type := Nat × (va_E ⊕ Nat)
abbrev JIH : Type := Nat × List JC
def hnew (h : JIH) : Nat := h.1 + h.2.length
def jce (c : JC) : Option va_E := match c.2 with
  | .inl e => some e
  | .inr _ => none
def hget (h : JIH) (a : Nat) : Option va_E := if h.1 ≤ a then (h.2[a - h.1]?).bind jce else none
def htag (h : JIH) (a : Nat) : Nat := if h.1 ≤ a then ((h.2[a - h.1]?).map Prod.fst).getD 0 else 0
def hset (h : JIH) (a : Nat) (e : va_E) : JIH := if h.1 ≤ a then (h.1, h.2.set (a - h.1) (htag h a, .inl e)) else h
def hpush (h : JIH) (t : Nat) (e : va_E) : JIH := (h.1, h.2 ++ [(t, .inl e)])
def hjunk (h : JIH) (n : Nat) : JIH := (h.1, h.2 ++ [(0, .inr n)])
def esz (e : va_E) : Nat := match e with
  | .inl a => a.2.1
  | .inr o => o.2.length
def jcz (c : JC) : Nat := match c.2 with
  | .inl e => esz e
  | .inr n => n
def hsl (h : JIH) : Nat := (h.2.map jcz).sum
def hres (h : JIH) : Nat := 8 * h.2.length + hsl h
theorem hget_eq {h : JIH} {a : Nat} {e : va_E} (g : hget h a = some e) : h.1 ≤ a ∧ ∃ t, h.2[a - h.1]? = some (t, .inl e) := by
  unfold hget at g
  by_cases q : h.1 ≤ a
  · rw [if_pos q] at g
    refine ⟨q, ?_⟩
    cases h1 : h.2[a - h.1]? with
    | none => rw [h1] at g; cases g
    | some c =>
      obtain ⟨t, c⟩ := c
      rw [h1] at g
      cases c with
      | inl e' =>
        have : some e' = some e := g
        cases this
        exact ⟨t, rfl⟩
      | inr n => cases g
  · rw [if_neg q] at g; cases g
theorem hget_of {h : JIH} {a i t : Nat} {e : va_E} (h1 : h.2[i]? = some (t, .inl e)) (ha : a = h.1 + i) : hget h a = some e := by
  subst ha
  unfold hget
  rw [if_pos (Nat.le_add_right _ _), Nat.add_sub_cancel_left, h1]
  rfl
theorem hget_lt {h : JIH} {a : Nat} {e : va_E} (g : hget h a = some e) : a < hnew h := by
  obtain ⟨h1, t, h2⟩ := hget_eq g
  have h3 := (List.getElem?_eq_some_iff.mp h2).1
  unfold hnew
  omega
theorem hget_ge {h : JIH} {a : Nat} {e : va_E} (g : hget h a = some e) : h.1 ≤ a := (hget_eq g).1
theorem hget_ne_new {h : JIH} {a : Nat} {e : va_E} (g : hget h a = some e) : a ≠ hnew h := Nat.ne_of_lt (hget_lt g)
theorem hset_1 (h : JIH) (a : Nat) (e : va_E) : (hset h a e).1 = h.1 := by
  unfold hset; split <;> rfl
theorem hset_len (h : JIH) (a : Nat) (e : va_E) : (hset h a e).2.length = h.2.length := by
  unfold hset; split <;> simp
theorem hnew_set (h : JIH) (a : Nat) (e : va_E) : hnew (hset h a e) = hnew h := by unfold hnew; rw [hset_1, hset_len]
theorem hget_set_same {h : JIH} {a : Nat} {e0 : va_E} (e : va_E) (g : hget h a = some e0) : hget (hset h a e) a = some e := by
  obtain ⟨h1, t, h2⟩ := hget_eq g
  have h3 := (List.getElem?_eq_some_iff.mp h2).1
  have h4 : (hset h a e).2 = h.2.set (a - h.1) (htag h a, .inl e) := by unfold hset; rw [if_pos h1]
  refine hget_of (i := a - h.1) (t := htag h a) (by rw [h4, List.getElem?_set_self h3]) (by rw [hset_1]; omega)
theorem hget_set_ne {h : JIH} {a b : Nat} (e : va_E) (n : a ≠ b) : hget (hset h a e) b = hget h b := by
  unfold hset
  by_cases h1 : h.1 ≤ a
  · rw [if_pos h1]
    unfold hget
    show (if h.1 ≤ b then _ else _) = _
    by_cases h2 : h.1 ≤ b
    · rw [if_pos h2, if_pos h2]
      show ((h.2.set (a - h.1) _)[b - h.1]?).bind jce = _
      rw [List.getElem?_set_ne (by omega)]
    · rw [if_neg h2, if_neg h2]
  · rw [if_neg h1]
theorem hpush_len (h : JIH) (t : Nat) (e : va_E) : (hpush h t e).2.length = h.2.length + 1 := by simp [hpush]
theorem hnew_push (h : JIH) (t : Nat) (e : va_E) : hnew (hpush h t e) = hnew h + 1 := by unfold hnew; rw [hpush_len]; show h.1 + _ = _; omega
theorem hget_push_new (h : JIH) (t : Nat) (e : va_E) : hget (hpush h t e) (hnew h) = some e :=
  hget_of (i := h.2.length) (t := t) (by simp [hpush]) rfl
theorem hget_push_ne {h : JIH} {a : Nat} (t : Nat) (e : va_E) (n : a ≠ hnew h) : hget (hpush h t e) a = hget h a := by
  unfold hget
  show (if h.1 ≤ a then _ else _) = _
  by_cases h2 : h.1 ≤ a
  · rw [if_pos h2, if_pos h2]
    show ((h.2 ++ [_])[a - h.1]?).bind jce = _
    by_cases h3 : a - h.1 < h.2.length
    · rw [List.getElem?_append_left h3]
    · have h4 : a - h.1 ≠ h.2.length := fun q => n (by unfold hnew; omega)
      rw [List.getElem?_eq_none (by simp; omega), List.getElem?_eq_none (by omega)]
  · rw [if_neg h2, if_neg h2]
theorem hget_push {h : JIH} {a : Nat} {e0 : va_E} (t : Nat) (e : va_E) (g : hget h a = some e0) : hget (hpush h t e) a = some e0 := by
  rw [hget_push_ne t e (hget_ne_new g)]; exact g
theorem hget_junk {h : JIH} {a : Nat} {e0 : va_E} (n : Nat) (g : hget h a = some e0) : hget (hjunk h n) a = some e0 := by
  obtain ⟨h1, t, h2⟩ := hget_eq g
  have h3 := (List.getElem?_eq_some_iff.mp h2).1
  refine hget_of (i := a - h.1) (t := t) ?_ (by show a = h.1 + _; omega)
  show (h.2 ++ [_])[a - h.1]? = _
  rw [List.getElem?_append_left h3]; exact h2
theorem htag_set (h : JIH) (a : Nat) (e : va_E) (b : Nat) : htag (hset h a e) b = htag h b := by
  unfold hset
  by_cases h1 : h.1 ≤ a
  · rw [if_pos h1]
    by_cases h2 : a = b
    · subst h2
      unfold htag
      show (if h.1 ≤ a then _ else _) = _
      rw [if_pos h1, if_pos h1]
      show (((h.2.set (a - h.1) _)[a - h.1]?).map Prod.fst).getD 0 = _
      by_cases h3 : a - h.1 < h.2.length
      · rw [List.getElem?_set_self h3]; rfl
      · rw [List.getElem?_eq_none (by simp; omega), List.getElem?_eq_none (by omega)]
    · unfold htag
      show (if h.1 ≤ b then _ else _) = _
      by_cases h3 : h.1 ≤ b
      · rw [if_pos h3, if_pos h3]
        show (((h.2.set (a - h.1) _)[b - h.1]?).map Prod.fst).getD 0 = _
        rw [List.getElem?_set_ne (by omega)]
      · rw [if_neg h3, if_neg h3]
  · rw [if_neg h1]
theorem htag_push_new (h : JIH) (t : Nat) (e : va_E) : htag (hpush h t e) (hnew h) = t := by
  unfold htag hpush hnew
  simp
theorem htag_push_ne {h : JIH} {a : Nat} (t : Nat) (e : va_E) (n : a ≠ hnew h) : htag (hpush h t e) a = htag h a := by
  unfold htag
  show (if h.1 ≤ a then _ else _) = _
  by_cases h2 : h.1 ≤ a
  · rw [if_pos h2, if_pos h2]
    show (((h.2 ++ [_])[a - h.1]?).map Prod.fst).getD 0 = _
    by_cases h3 : a - h.1 < h.2.length
    · rw [List.getElem?_append_left h3]
    · have h4 : a - h.1 ≠ h.2.length := fun q => n (by unfold hnew; omega)
      rw [List.getElem?_eq_none (by simp; omega), List.getElem?_eq_none (by omega)]
  · rw [if_neg h2, if_neg h2]
theorem hsl_set {h : JIH} {a : Nat} {e0 e : va_E} (g : hget h a = some e0) (hz : esz e = esz e0) : hsl (hset h a e) = hsl h := by
  obtain ⟨h1, t, h2⟩ := hget_eq g
  unfold hsl hset
  rw [if_pos h1]
  show ((h.2.set _ _).map jcz).sum = _
  have h3 := (List.getElem?_eq_some_iff.mp h2).1
  rw [List.map_set]
  have h4 : (h.2.map jcz)[a - h.1]? = some (jcz (htag h a, .inl e)) := by
    rw [List.getElem?_map, h2]
    show some (esz e0) = some (esz e)
    rw [hz]
  have h5 : (h.2.map jcz).set (a - h.1) (jcz (htag h a, .inl e)) = h.2.map jcz := by
    apply List.ext_getElem?
    intro i
    by_cases hi : a - h.1 = i
    · subst hi
      rw [List.getElem?_set_self (by simp; exact h3), h4]
    · rw [List.getElem?_set_ne hi]
  rw [h5]
theorem hsl_push (h : JIH) (t : Nat) (e : va_E) : hsl (hpush h t e) = hsl h + esz e := by
  unfold hsl hpush
  simp [jcz]
theorem hres_set {h : JIH} {a : Nat} {e0 e : va_E} (g : hget h a = some e0) (hz : esz e = esz e0) : hres (hset h a e) = hres h := by
  unfold hres; rw [hset_len, hsl_set g hz]
theorem hres_push (h : JIH) (t : Nat) (e : va_E) : hres (hpush h t e) = hres h + (8 + esz e) := by
  unfold hres; rw [hpush_len, hsl_push]; omega
/-- all known cells, with their addresses -/
def hLa : Nat → List JC → va_W
  | _, [] => []
  | b, c :: r => match jce c with
    | some e => (b, e) :: hLa (b + 1) r
    | none => hLa (b + 1) r
theorem hLa_mem {r : List JC} : ∀ {b : Nat} {q : Nat × va_E}, q ∈ hLa b r → ∃ i t, r[i]? = some (t, .inl q.2) ∧ q.1 = b + i := by
  induction r with
  | nil => intro b q h; cases h
  | cons c r ih =>
    intro b q h
    obtain ⟨t, c⟩ := c
    cases c with
    | inl e =>
      rcases List.mem_cons.mp (show q ∈ (b, e) :: hLa (b + 1) r from h) with h | h
      · subst h; exact ⟨0, t, rfl, rfl⟩
      · obtain ⟨i, t', h1, h2⟩ := ih h
        exact ⟨i + 1, t', h1, by omega⟩
    | inr n =>
      obtain ⟨i, t', h1, h2⟩ := ih (show q ∈ hLa (b + 1) r from h)
      exact ⟨i + 1, t', h1, by omega⟩
theorem hLa_of {r : List JC} : ∀ {b i t : Nat} {e : va_E}, r[i]? = some (t, .inl e) → (b + i, e) ∈ hLa b r := by
  induction r with
  | nil => intro b i t e h; simp at h
  | cons c r ih =>
    intro b i t e h
    obtain ⟨t', c⟩ := c
    cases i with
    | zero =>
      have h : (t', c) = (t, Sum.inl e) := Option.some.inj (by simpa using h)
      cases h
      exact List.mem_cons_self
    | succ i =>
      have h : r[i]? = some (t, .inl e) := by simpa using h
      have h1 : (b + 1 + i, e) ∈ hLa (b + 1) r := ih h
      have h2 : b + (i + 1) = b + 1 + i := by omega
      rw [h2]
      cases c with
      | inl e' => exact List.mem_cons_of_mem _ h1
      | inr n => exact h1
theorem hLa_sorted {r : List JC} : ∀ {b : Nat}, (hLa b r).Pairwise (fun p q => p.1 < q.1) := by
  induction r with
  | nil => intro b; exact List.Pairwise.nil
  | cons c r ih =>
    intro b
    obtain ⟨t, c⟩ := c
    cases c with
    | inl e =>
      refine List.Pairwise.cons (fun q hq => ?_) ih
      obtain ⟨i, t', h1, h2⟩ := hLa_mem hq
      show b < q.1
      omega
    | inr n => exact ih
def hL (h : JIH) : va_W := hLa h.1 h.2
theorem hL_of {h : JIH} {a : Nat} {e : va_E} (g : hget h a = some e) : ∃ p : Nat, (hL h)[p]? = some (a, e) := by
  obtain ⟨h1, t, h2⟩ := hget_eq g
  have h3 : (h.1 + (a - h.1), e) ∈ hL h := hLa_of h2
  rw [show h.1 + (a - h.1) = a by omega] at h3
  obtain ⟨p, h4⟩ := List.mem_iff_getElem?.mp h3
  exact ⟨p, h4⟩
theorem hL_get {h : JIH} {p : Nat} {q : Nat × va_E} (g : (hL h)[p]? = some q) : hget h q.1 = some q.2 := by
  obtain ⟨i, t, h1, h2⟩ := hLa_mem (List.mem_of_getElem? g)
  exact hget_of h1 h2
theorem hL_inj {h : JIH} {i j : Nat} {p q : Nat × va_E} (hi : (hL h)[i]? = some p) (hj : (hL h)[j]? = some q) (e : p.1 = q.1) : i = j := by
  have hs := List.pairwise_iff_getElem.mp (hLa_sorted (r := h.2) (b := h.1))
  obtain ⟨li, ei⟩ := List.getElem?_eq_some_iff.mp hi
  obtain ⟨lj, ej⟩ := List.getElem?_eq_some_iff.mp hj
  rcases Nat.lt_trichotomy i j with c | c | c
  · have h1 : ((hL h)[i]).1 < ((hL h)[j]).1 := hs i j li lj c
    rw [ei, ej] at h1; omega
  · exact c
  · have h1 : ((hL h)[j]).1 < ((hL h)[i]).1 := hs j i lj li c
    rw [ei, ej] at h1; omega
/-- the real heap holds the known cells -/
def jP (D : va_G) (cl : List vw_C) (h : JIH) (H : Heap) : Prop := ∀ (a : Nat) (e : va_E), hget h a = some e → va_at D cl (a, e) H
theorem jP.va {D : va_G} {cl : List vw_C} {h : JIH} {H : Heap} (g : jP D cl h H) : va_P D cl (hL h) H := fun _ q hk => g q.1 q.2 (hL_get hk)
theorem jD (h : JIH) : va_D (fun q => h.1 ≤ q) (hL h) := ⟨fun _ _ _ _ hi hj e => hL_inj hi hj e, fun _ _ hk => hget_ge (hL_get hk)⟩
theorem jP.put {D : va_G} {cl : List vw_C} {h : JIH} {H1 : Heap} {p a : Nat} {e0 e : va_E} (hp : (hL h)[p]? = some (a, e0)) (g : va_P D cl ((hL h).set p (a, e)) H1) : jP D cl (hset h a e) H1 := by
  intro b eb hb
  have hlt := (List.getElem?_eq_some_iff.mp hp).1
  by_cases q : a = b
  · subst q
    rw [hget_set_same e (hL_get hp)] at hb
    cases hb
    exact g p _ (List.getElem?_set_self hlt)
  · rw [hget_set_ne e q] at hb
    obtain ⟨j, hj⟩ := hL_of hb
    have hjp : p ≠ j := fun z => by
      subst z
      exact q (congrArg Prod.fst (Option.some.inj (hp.symm.trans hj)))
    exact g j _ (by rw [List.getElem?_set_ne hjp]; exact hj)
theorem jP.push {D : va_G} {cl : List vw_C} {h : JIH} {H1 : Heap} {t : Nat} {e : va_E} (g : va_P D cl (hL h ++ [(hnew h, e)]) H1) : jP D cl (hpush h t e) H1 := by
  intro b eb hb
  by_cases q : b = hnew h
  · subst q
    rw [hget_push_new] at hb
    cases hb
    exact g (hL h).length _ (by simp)
  · rw [hget_push_ne t e q] at hb
    obtain ⟨j, hj⟩ := hL_of hb
    have hlt := (List.getElem?_eq_some_iff.mp hj).1
    exact g j _ (by rw [List.getElem?_append_left hlt]; exact hj)
