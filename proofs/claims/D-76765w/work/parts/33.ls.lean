/-! lists: doubly linked rows, chains -/
theorem va_up_at {α : Type} (f : Nat → α) (k : Nat) (v : α) (j : Nat) : va_up f k v j = if j = k then v else f j := rfl
theorem va_up_up {α : Type} (f : Nat → α) (k : Nat) (v w : α) : va_up (va_up f k v) k w = va_up f k w := by
  funext j; simp only [va_up_at]; split <;> rfl
theorem va_upid {α : Type} (f : Nat → α) (k : Nat) : va_up f k (f k) = f := by
  funext j; simp only [va_up_at]; split
  · rename_i h; rw [h]
  · rfl
/-- by cases -/
def oel {α : Type} (o : Option Nat) (x : α) (y : Nat → α) : α := match o with
  | none => x
  | some z => y z
/-- the last of a list, or what stood ahead of it -/
def lst : Option Nat → List Nat → Option Nat
  | p, [] => p
  | _, k :: r => lst (some k) r
theorem lst_mem : ∀ {l : List Nat} {p : Option Nat} {b : Nat}, lst p l = some b → (l = [] ∧ p = some b) ∨ b ∈ l
  | [], _, _, h => Or.inl ⟨rfl, h⟩
  | k :: r, _, b, h => by
    rcases lst_mem (l := r) h with ⟨h1, h2⟩ | h1
    · cases h2; exact Or.inr List.mem_cons_self
    · exact Or.inr (List.mem_cons_of_mem _ h1)
theorem lst_in {l : List Nat} {b : Nat} (h : lst none l = some b) : b ∈ l := by
  rcases lst_mem h with ⟨-, h2⟩ | h1
  · cases h2
  · exact h1
theorem lst_none {l : List Nat} (h : lst none l = none) : l = [] := by
  cases l with
  | nil => rfl
  | cons k r =>
    exfalso
    have : ∀ (r : List Nat) (k : Nat), lst (some k) r ≠ none := by
      intro r
      induction r with
      | nil => intro k h; cases h
      | cons a r ih => intro k h; exact ih a h
    exact this r k h
theorem lst_cons (p p' : Option Nat) (a : Nat) (l : List Nat) : lst p (a :: l) = lst p' (a :: l) := rfl
theorem lst_app : ∀ (l l2 : List Nat) (p : Option Nat), lst p (l ++ l2) = lst (lst p l) l2
  | [], _, _ => rfl
  | k :: r, l2, _ => lst_app r l2 (some k)
/-- a doubly linked row: behind p the keys l -/
def Dl (bf af : Nat → Option Nat) : Option Nat → List Nat → Prop
  | _, [] => True
  | p, k :: r => bf k = p ∧ af k = r.head? ∧ Dl bf af (some k) r
theorem Dl.congr {bf af bf' af' : Nat → Option Nat} : ∀ {l : List Nat} {p : Option Nat}, Dl bf af p l → (∀ k ∈ l, bf' k = bf k ∧ af' k = af k) → Dl bf' af' p l
  | [], _, _, _ => trivial
  | k :: r, p, h, g => ⟨(g k List.mem_cons_self).1.trans h.1, (g k List.mem_cons_self).2.trans h.2.1, Dl.congr h.2.2 fun x hx => g x (List.mem_cons_of_mem _ hx)⟩
theorem Dl.bf {bf af : Nat → Option Nat} {k : Nat} {l2 : List Nat} : ∀ {l1 : List Nat} {p : Option Nat}, Dl bf af p (l1 ++ k :: l2) → bf k = lst p l1
  | [], _, h => h.1
  | a :: r, _, h => Dl.bf (l1 := r) (p := some a) h.2.2
theorem Dl.af {bf af : Nat → Option Nat} {k : Nat} {l2 : List Nat} : ∀ {l1 : List Nat} {p : Option Nat}, Dl bf af p (l1 ++ k :: l2) → af k = l2.head?
  | [], _, h => h.2.1
  | a :: r, _, h => Dl.af (l1 := r) (p := some a) h.2.2
theorem Dl.suf {bf af : Nat → Option Nat} {l2 : List Nat} : ∀ {l1 : List Nat} {p : Option Nat}, Dl bf af p (l1 ++ l2) → Dl bf af (lst p l1) l2
  | [], _, h => h
  | a :: r, _, h => Dl.suf (l1 := r) (p := some a) h.2.2
theorem Dl.add {bf af bf' af' : Nat → Option Nat} {k : Nat} : ∀ {l : List Nat} {p : Option Nat}, Dl bf af p l → l.Nodup → k ∉ l → bf' k = lst p l → af' k = none → (∀ x ∈ l, bf' x = bf x) → (∀ x ∈ l, lst none l ≠ some x → af' x = af x) → (∀ x, lst none l = some x → af' x = some k) → Dl bf' af' p (l ++ [k])
  | [], p, _, _, _, h1, h2, _, _, _ => ⟨h1, h2, trivial⟩
  | a :: r, p, h, hn, hk, h1, h2, h3, h4, h5 => by
    have hn' := List.nodup_cons.mp hn
    refine ⟨(h3 a List.mem_cons_self).trans h.1, ?_, ?_⟩
    · cases r with
      | nil => exact h5 a rfl
      | cons b r =>
        rw [h4 a List.mem_cons_self (fun z => ?_)]
        · exact h.2.1
        · rcases lst_mem (l := b :: r) (p := some a) z with ⟨z1, -⟩ | z1
          · cases z1
          · exact hn'.1 z1
    · refine Dl.add h.2.2 hn'.2 (fun z => hk (List.mem_cons_of_mem _ z)) h1 h2 (fun x hx => h3 x (List.mem_cons_of_mem _ hx)) (fun x hx hne => h4 x (List.mem_cons_of_mem _ hx) ?_) (fun x hx => h5 x ?_)
      · cases r with
        | nil => cases hx
        | cons b r => exact hne
      · cases r with
        | nil => cases hx
        | cons b r => exact hx
/-- k goes out of a doubly linked row -/
theorem Dl.rem {bf af bf' af' : Nat → Option Nat} {k : Nat} {l2 : List Nat} (hb : ∀ x, x ≠ k → bf' x = if af k = some x then bf k else bf x) (ha : ∀ x, x ≠ k → af' x = if bf k = some x then af k else af x) : ∀ {l1 : List Nat} {p : Option Nat}, Dl bf af p (l1 ++ k :: l2) → (l1 ++ k :: l2).Nodup → (∀ b, p = some b → b ∉ l1 ++ k :: l2) → Dl bf' af' p (l1 ++ l2)
  | [], p, h, hn, hp => by
    have hn' := List.nodup_cons.mp hn
    cases l2 with
    | nil => trivial
    | cons c l3 =>
      have hn3 := List.nodup_cons.mp hn'.2
      have hck : c ≠ k := fun z => hn'.1 (z ▸ List.mem_cons_self)
      have hak : af k = some c := h.2.1
      refine ⟨?_, ?_, ?_⟩
      · rw [hb c hck, if_pos hak]; exact h.1
      · rw [ha c hck, if_neg (fun z => ?_)]
        · exact h.2.2.2.1
        · exact hp c (h.1.symm.trans z) (List.mem_cons_of_mem _ List.mem_cons_self)
      · refine h.2.2.2.2.congr fun x hx => ?_
        have hxk : x ≠ k := fun z => hn'.1 (z ▸ List.mem_cons_of_mem _ hx)
        refine ⟨?_, ?_⟩
        · rw [hb x hxk, if_neg (fun z => ?_)]
          rw [hak] at z; cases z; exact hn3.1 hx
        · rw [ha x hxk, if_neg (fun z => ?_)]
          exact hp x (h.1.symm.trans z) (List.mem_cons_of_mem _ (List.mem_cons_of_mem _ hx))
  | a :: l1, p, h, hn, hp => by
    have hn' := List.nodup_cons.mp hn
    have hak : a ≠ k := fun z => hn'.1 (z ▸ List.mem_append_right _ List.mem_cons_self)
    have h1 := Dl.bf h.2.2
    have h2 := Dl.af h.2.2
    refine ⟨?_, ?_, ?_⟩
    · rw [hb a hak, if_neg (fun z => ?_)]
      · exact h.1
      · rw [h2] at z
        exact hn'.1 (List.mem_append_right _ (List.mem_cons_of_mem _ (List.mem_of_mem_head? z)))
    · rw [ha a hak]
      cases l1 with
      | nil => rw [if_pos (show bf k = some a from h1)]; exact h2
      | cons b l1 =>
        rw [if_neg (fun z => ?_)]
        · exact h.2.1
        · rw [h1] at z
          rcases lst_mem z with ⟨z1, -⟩ | z1
          · cases z1
          · exact hn'.1 (List.mem_append_left _ z1)
    · refine Dl.rem hb ha h.2.2 hn'.2 (fun b hb' => ?_)
      cases hb'
      exact hn'.1
theorem Dl.head {bf af : Nat → Option Nat} {k : Nat} {l1 l2 : List Nat} (h : Dl bf af none (l1 ++ k :: l2)) : oel (bf k) (af k) (fun _ => (l1 ++ k :: l2).head?) = (l1 ++ l2).head? := by
  rw [Dl.bf h, Dl.af h]
  cases l1 with
  | nil => rfl
  | cons a l1 =>
    cases hz : lst none (a :: l1) with
    | none => cases lst_none hz
    | some b => rfl
theorem Dl.last {bf af : Nat → Option Nat} {k : Nat} {l1 l2 : List Nat} (h : Dl bf af none (l1 ++ k :: l2)) : oel (af k) (bf k) (fun _ => lst none (l1 ++ k :: l2)) = lst none (l1 ++ l2) := by
  rw [Dl.bf h, Dl.af h, lst_app, lst_app]
  cases l2 with
  | nil => rfl
  | cons c l2 => rfl
/-- a chain: from o on the keys l, then none -/
def Chn (nx : Nat → Option Nat) : Option Nat → List Nat → Prop
  | o, [] => o = none
  | o, k :: r => o = some k ∧ Chn nx (nx k) r
theorem Chn.congr {nx nx' : Nat → Option Nat} : ∀ {l : List Nat} {o : Option Nat}, Chn nx o l → (∀ k ∈ l, nx' k = nx k) → Chn nx' o l
  | [], _, h, _ => h
  | k :: r, o, h, g => ⟨h.1, by rw [g k List.mem_cons_self]; exact Chn.congr h.2 fun x hx => g x (List.mem_cons_of_mem _ hx)⟩
theorem Chn.hd {nx : Nat → Option Nat} {o : Option Nat} {l : List Nat} (h : Chn nx o l) : o = l.head? := by
  cases l with
  | nil => exact h
  | cons k r => exact h.1
theorem Chn.nx {nx : Nat → Option Nat} {k : Nat} {l2 : List Nat} : ∀ {l1 : List Nat} {o : Option Nat}, Chn nx o (l1 ++ k :: l2) → nx k = l2.head?
  | [], _, h => Chn.hd h.2
  | a :: r, _, h => Chn.nx (l1 := r) h.2
theorem Chn.suf {nx : Nat → Option Nat} {k : Nat} {l2 : List Nat} : ∀ {l1 : List Nat} {o : Option Nat}, Chn nx o (l1 ++ k :: l2) → Chn nx (nx k) l2
  | [], _, h => h.2
  | a :: r, _, h => Chn.suf (l1 := r) h.2
/-- a key goes behind the last of a chain (not empty) -/
theorem Chn.add {nx nx' : Nat → Option Nat} {k : Nat} : ∀ {l : List Nat} {o : Option Nat} {z : Nat}, Chn nx o l → l.Nodup → lst none l = some z → nx' k = none → (∀ x ∈ l, x ≠ z → nx' x = nx x) → nx' z = some k → Chn nx' o (l ++ [k])
  | [], _, _, _, _, hz, _, _, _ => by cases hz
  | [a], o, z, h, _, hz, h1, _, h3 => by
    have : a = z := Option.some.inj hz
    subst this
    exact ⟨h.1, h3, h1⟩
  | a :: b :: r, o, z, h, hn, hz, h1, h2, h3 => by
    have hn' := List.nodup_cons.mp hn
    have haz : a ≠ z := fun q => hn'.1 (q ▸ lst_in (l := b :: r) hz)
    refine ⟨h.1, ?_⟩
    rw [h2 a List.mem_cons_self haz]
    exact Chn.add h.2 hn'.2 hz h1 (fun x hx => h2 x (List.mem_cons_of_mem _ hx)) h3
/-- a key that isn't the first goes out of a chain -/
theorem Chn.rem {nx nx' : Nat → Option Nat} {k z : Nat} {l2 : List Nat} (hz : nx' z = nx k) (hx : ∀ x, x ≠ z → nx' x = nx x) : ∀ {l1 : List Nat} {o : Option Nat}, Chn nx o (l1 ++ k :: l2) → (l1 ++ k :: l2).Nodup → lst none l1 = some z → Chn nx' o (l1 ++ l2)
  | [], _, _, _, h => by cases h
  | [a], o, h, hn, h1 => by
    have : a = z := Option.some.inj h1
    subst this
    have hn' := List.nodup_cons.mp hn
    refine ⟨h.1, ?_⟩
    rw [hz]
    refine Chn.congr h.2.2 fun x hx' => hx x fun q => hn'.1 (q ▸ List.mem_cons_of_mem _ hx')
  | a :: b :: l1, o, h, hn, h1 => by
    have hn' := List.nodup_cons.mp hn
    have haz : a ≠ z := fun q => hn'.1 (q ▸ List.mem_append_left _ (lst_in (l := b :: l1) h1))
    refine ⟨h.1, ?_⟩
    rw [hx a haz]
    exact Chn.rem hz hx h.2 hn'.2 h1
theorem mem_split {l : List Nat} {k : Nat} (h : k ∈ l) : ∃ l1 l2, l = l1 ++ k :: l2 := List.append_of_mem h
theorem erase_split {l1 l2 : List Nat} {k : Nat} (h : (l1 ++ k :: l2).Nodup) : (l1 ++ k :: l2).erase k = l1 ++ l2 := by
  have h1 : k ∉ l1 := fun z => (List.nodup_append.mp h).2.2 k z k List.mem_cons_self rfl
  rw [List.erase_append_right _ h1, List.erase_cons_head]
theorem mem_erase_iff {l : List Nat} (h : l.Nodup) {k x : Nat} : x ∈ l.erase k ↔ x ∈ l ∧ x ≠ k := by
  rw [h.erase_eq_filter, List.mem_filter]
  simp
theorem nodup_snoc {l : List Nat} {k : Nat} (h : l.Nodup) (hk : k ∉ l) : (l ++ [k]).Nodup := by
  rw [List.nodup_append]
  refine ⟨h, List.nodup_cons.mpr ⟨by simp, List.nodup_nil⟩, fun a ha b hb => ?_⟩
  rw [List.mem_singleton] at hb
  subst hb
  exact fun z => hk (z ▸ ha)
