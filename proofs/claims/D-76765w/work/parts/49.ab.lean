/-! THE ABSTRACT CACHE: queues of key numbers (1 probation, 2 guarded, 3 ghosts, 4 ghosts too), values, attributes (0 weight, 1 cost, 2 hits, 3 chances, 4 pinned) -/
abbrev AS : Type := (Nat → List Nat) × (Nat → Int32) × (Nat → Nat → Nat)
def upQ (s : AS) (i : Nat) (l : List Nat) : AS := (va_up s.1 i l, s.2)
def upV (s : AS) (j k x : Nat) : AS := (s.1, s.2.1, va_up s.2.2 j (va_up (s.2.2 j) k x))
def upL (s : AS) (k : Nat) (v : Int32) : AS := (s.1, va_up s.2.1 k v, s.2.2)
def aout (s : AS) (i k : Nat) : AS := upQ s i ((s.1 i).erase k)
def ain (s : AS) (i k : Nat) : AS := upQ s i (s.1 i ++ [k])
def aold (s : AS) (i : Nat) : Option Nat := (s.1 i).find? (fun k => s.2.2 4 k == 0)
/-- a thing's attributes but its weight are nothing -/
def aghost (s : AS) (k : Nat) : AS := (s.1, va_up s.2.1 k 0, fun j => if j = 0 then s.2.2 0 else va_up (s.2.2 j) k 0)
def wsum (s : AS) (i : Nat) : Nat := ((s.1 i).map (s.2.2 0)).sum
def npin (s : AS) (i : Nat) : Nat := ((s.1 i).filter (fun k => s.2.2 4 k != 0)).length
def afall (s : AS) (k : Nat) : AS := ain (upV (aout s 2 k) 2 k 0) 1 k
def alife (s : AS) (k : Nat) : AS := ain (upV (aout s 1 k) 3 k (s.2.2 3 k - 1)) 1 k
def ago (s : AS) (i k g : Nat) : AS := ain (aghost (aout s i k) k) g k
def asinks (bor : Nat) : Nat → AS → Option AS
  | 0, _ => none
  | f + 1, s => if bor < wsum s 2 then (match aold s 2 with
    | none => some s
    | some k => asinks bor f (afall s k)) else some s
def alets (cap : Nat) : Nat → AS → List Nat → Option (AS × List Nat)
  | 0, _, _ => none
  | f + 1, s, gs => if cap < wsum s 1 + wsum s 2 then (match aold s 1 with
    | some k => if 0 < s.2.2 3 k then alets cap f (alife s k) gs else alets cap f (ago s 1 k 3) (k :: gs)
    | none => match aold s 2 with
      | some k => alets cap f (ago s 2 k 4) (k :: gs)
      | none => some (s, gs)) else some (s, gs)
def afade (cap i : Nat) : Nat → AS → Option AS
  | 0, _ => none
  | f + 1, s => if cap < wsum s i then (match aold s i with
    | none => none
    | some k => afade cap i f (aout s i k)) else some s
def atrim (cap bor f : Nat) (s s' : AS) (gs : List Nat) : Prop := ∃ s1 s2 s3, asinks bor f s = some s1 ∧ alets cap f s1 [] = some (s2, gs) ∧ afade cap 3 f s2 = some s3 ∧ afade cap 4 f s3 = some s'
def aq (i : Nat) : Prop := 1 ≤ i ∧ i ≤ 4
/-- what is kept true of it -/
def AW (s : AS) : Prop := (∀ i j k, aq i → aq j → k ∈ s.1 i → k ∈ s.1 j → i = j) ∧ (∀ i, aq i → (s.1 i).Nodup) ∧ (∀ i k, aq i → k ∈ s.1 i → k < 400 ∧ (1 ≤ s.2.2 0 k ∧ s.2.2 0 k ≤ 9) ∧ s.2.2 1 k ≤ 99 ∧ s.2.2 2 k ≤ 99 ∧ s.2.2 3 k ≤ 9 ∧ s.2.2 4 k ≤ 1 ∧ (3 ≤ i → s.2.2 4 k = 0))
theorem aq1 : aq 1 := ⟨by decide, by decide⟩
theorem aq2 : aq 2 := ⟨by decide, by decide⟩
theorem aq3 : aq 3 := ⟨by decide, by decide⟩
theorem aq4 : aq 4 := ⟨by decide, by decide⟩
theorem upQ_1 (s : AS) (i : Nat) (l : List Nat) (j : Nat) : (upQ s i l).1 j = if j = i then l else s.1 j := rfl
theorem upV_2 (s : AS) (j k x i m : Nat) : (upV s j k x).2.2 i m = if i = j ∧ m = k then x else s.2.2 i m := by
  show va_up s.2.2 j (va_up (s.2.2 j) k x) i m = _
  by_cases e : i = j
  · subst e
    rw [va_up_self, va_up_at]
    by_cases e2 : m = k
    · rw [if_pos e2, if_pos ⟨rfl, e2⟩]
    · rw [if_neg e2, if_neg (fun z => e2 z.2)]
  · rw [va_up_ne _ _ e, if_neg (fun z => e z.1)]
theorem aghost_2 (s : AS) (k i m : Nat) : (aghost s k).2.2 i m = if i ≠ 0 ∧ m = k then 0 else s.2.2 i m := by
  show (if i = 0 then s.2.2 0 else va_up (s.2.2 i) k 0) m = _
  by_cases e : i = 0
  · subst e; rw [if_pos rfl, if_neg (fun z => z.1 rfl)]
  · rw [if_neg e, va_up_at]
    by_cases e2 : m = k
    · rw [if_pos e2, if_pos ⟨e, e2⟩]
    · rw [if_neg e2, if_neg (fun z => e2 z.2)]
theorem aold_some {s : AS} {i k : Nat} (h : aold s i = some k) : k ∈ s.1 i ∧ s.2.2 4 k = 0 := by
  refine ⟨List.mem_of_find?_eq_some h, ?_⟩
  have := List.find?_some h
  simpa using this
theorem wsum_le {s : AS} (h : AW s) {i : Nat} (hi : aq i) : wsum s i ≤ 3600 := by
  have h1 : (s.1 i).length ≤ 400 := nodup_lt (h.2.1 i hi) (fun k hk => (h.2.2 i k hi hk).1)
  have h2 : ∀ l : List Nat, (∀ k ∈ l, s.2.2 0 k ≤ 9) → (l.map (s.2.2 0)).sum ≤ 9 * l.length := by
    intro l
    induction l with
    | nil => intro _; exact Nat.le_refl _
    | cons a r ih =>
      intro g
      have := ih (fun k hk => g k (List.mem_cons_of_mem _ hk))
      have := g a List.mem_cons_self
      simp only [List.map_cons, List.sum_cons, List.length_cons]
      omega
  have h3 := h2 (s.1 i) (fun k hk => (h.2.2 i k hi hk).2.1.2)
  unfold wsum
  omega
theorem sum_erase {f : Nat → Nat} {k : Nat} : ∀ {l : List Nat}, k ∈ l → ((l.erase k).map f).sum + f k = (l.map f).sum
  | [], h => by cases h
  | a :: r, h => by
    by_cases e : a = k
    · subst e
      rw [List.erase_cons_head]
      simp only [List.map_cons, List.sum_cons]
      omega
    · have h1 : k ∈ r := (List.mem_cons.mp h).resolve_left (fun z => e z.symm)
      rw [List.erase_cons_tail (by simpa using e)]
      have := sum_erase (f := f) h1
      simp only [List.map_cons, List.sum_cons]
      omega
theorem wsum_out {s : AS} {i k : Nat} (h : k ∈ s.1 i) : wsum (aout s i k) i + s.2.2 0 k = wsum s i := by
  unfold wsum aout
  rw [upQ_1, if_pos rfl]
  exact sum_erase h
theorem wsum_in (s : AS) (i k : Nat) : wsum (ain s i k) i = wsum s i + s.2.2 0 k := by
  unfold wsum ain
  rw [upQ_1, if_pos rfl, List.map_append, List.sum_append]
  show _ = _
  simp [upQ]
theorem wsum_upQ {s : AS} {i j : Nat} (l : List Nat) (h : j ≠ i) : wsum (upQ s i l) j = wsum s j := by
  unfold wsum
  rw [upQ_1, if_neg h]
  rfl
theorem wsum_V {s : AS} {j k x i : Nat} (h : j ≠ 0) : wsum (upV s j k x) i = wsum s i := by
  unfold wsum
  have : (upV s j k x).2.2 0 = s.2.2 0 := by
    funext m; rw [upV_2, if_neg (fun z => h z.1.symm)]
  rw [this]
  rfl
theorem wsum_g {s : AS} {k i : Nat} : wsum (aghost s k) i = wsum s i := rfl
theorem AW.out {s : AS} (h : AW s) {i k : Nat} (hi : aq i) : AW (aout s i k) := by
  have hm : ∀ j x, x ∈ (aout s i k).1 j → x ∈ s.1 j := by
    intro j x hx
    unfold aout at hx
    rw [upQ_1] at hx
    by_cases e : j = i
    · rw [if_pos e] at hx; rw [e]; exact List.mem_of_mem_erase hx
    · rw [if_neg e] at hx; exact hx
  refine ⟨fun a b x ha hb h1 h2 => h.1 a b x ha hb (hm a x h1) (hm b x h2), fun j hj => ?_, fun j x hj hx => h.2.2 j x hj (hm j x hx)⟩
  unfold aout
  rw [upQ_1]
  split
  · exact (h.2.1 i hi).erase k
  · exact h.2.1 j hj
theorem out_not {s : AS} (h : AW s) {i k : Nat} (hi : aq i) (hk : k ∈ s.1 i) {j : Nat} (hj : aq j) : k ∉ (aout s i k).1 j := by
  unfold aout
  rw [upQ_1]
  split
  · intro z
    exact ((mem_erase_iff (h.2.1 i hi)).mp z).2 rfl
  · rename_i e
    exact fun z => e (h.1 j i k hj hi z hk)
/-- a key that is nowhere comes into a queue -/
theorem AW.ins {s : AS} (h : AW s) {i k : Nat} (hi : aq i) (hk : ∀ j, aq j → k ∉ s.1 j) (g : k < 400 ∧ (1 ≤ s.2.2 0 k ∧ s.2.2 0 k ≤ 9) ∧ s.2.2 1 k ≤ 99 ∧ s.2.2 2 k ≤ 99 ∧ s.2.2 3 k ≤ 9 ∧ s.2.2 4 k ≤ 1 ∧ (3 ≤ i → s.2.2 4 k = 0)) : AW (ain s i k) := by
  have hm : ∀ j x, aq j → x ∈ (ain s i k).1 j → x ∈ s.1 j ∨ (x = k ∧ j = i) := by
    intro j x hj hx
    unfold ain at hx
    rw [upQ_1] at hx
    by_cases e : j = i
    · rw [if_pos e] at hx
      rcases List.mem_append.mp hx with hx | hx
      · rw [e]; exact Or.inl hx
      · exact Or.inr ⟨List.mem_singleton.mp hx, e⟩
    · rw [if_neg e] at hx; exact Or.inl hx
  refine ⟨fun a b x ha hb h1 h2 => ?_, fun j hj => ?_, fun j x hj hx => ?_⟩
  · rcases hm a x ha h1 with h1 | ⟨e1, e2⟩ <;> rcases hm b x hb h2 with h2 | ⟨e3, e4⟩
    · exact h.1 a b x ha hb h1 h2
    · exact absurd (e3 ▸ h1) (hk a ha)
    · exact absurd (e1 ▸ h2) (hk b hb)
    · rw [e2, e4]
  · unfold ain
    rw [upQ_1]
    split
    · exact nodup_snoc (h.2.1 i hi) (hk i hi)
    · exact h.2.1 j hj
  · rcases hm j x hj hx with hx | ⟨rfl, rfl⟩
    · exact h.2.2 j x hj hx
    · exact g
/-- attributes of a key that is nowhere change -/
theorem AW.att {s : AS} (h : AW s) {v : Nat → Int32} {V : Nat → Nat → Nat} {k : Nat} (hk : ∀ j, aq j → k ∉ s.1 j) (g : ∀ i m, m ≠ k → V i m = s.2.2 i m) : AW (s.1, v, V) := by
  refine ⟨h.1, h.2.1, fun i x hi hx => ?_⟩
  have e : x ≠ k := fun z => hk i hi (z ▸ hx)
  show x < 400 ∧ (1 ≤ V 0 x ∧ V 0 x ≤ 9) ∧ V 1 x ≤ 99 ∧ V 2 x ≤ 99 ∧ V 3 x ≤ 9 ∧ V 4 x ≤ 1 ∧ (3 ≤ i → V 4 x = 0)
  rw [g 0 x e, g 1 x e, g 2 x e, g 3 x e, g 4 x e]
  exact h.2.2 i x hi hx
theorem AW.fall {s : AS} (h : AW s) {k : Nat} (hk : k ∈ s.1 2) : AW (afall s k) := by
  have h1 := h.out (k := k) aq2
  have hn := fun j hj => out_not h aq2 hk (j := j) hj
  have a := h.2.2 2 k aq2 hk
  refine AW.ins (AW.att h1 (k := k) hn (fun i m hm => by rw [show va_up (aout s 2 k).2.2 2 (va_up ((aout s 2 k).2.2 2) k 0) i m = (upV (aout s 2 k) 2 k 0).2.2 i m from rfl, upV_2, if_neg (fun z => hm z.2)])) aq1 hn ?_
  show k < 400 ∧ (1 ≤ (upV (aout s 2 k) 2 k 0).2.2 0 k ∧ (upV (aout s 2 k) 2 k 0).2.2 0 k ≤ 9) ∧ (upV (aout s 2 k) 2 k 0).2.2 1 k ≤ 99 ∧ (upV (aout s 2 k) 2 k 0).2.2 2 k ≤ 99 ∧ (upV (aout s 2 k) 2 k 0).2.2 3 k ≤ 9 ∧ (upV (aout s 2 k) 2 k 0).2.2 4 k ≤ 1 ∧ (3 ≤ 1 → _)
  simp only [upV_2]
  exact ⟨a.1, a.2.1, a.2.2.1, by simp, a.2.2.2.2.1, a.2.2.2.2.2.1, fun z => absurd z (by decide)⟩
theorem AW.life {s : AS} (h : AW s) {k : Nat} (hk : k ∈ s.1 1) : AW (alife s k) := by
  have h1 := h.out (k := k) aq1
  have hn := fun j hj => out_not h aq1 hk (j := j) hj
  have a := h.2.2 1 k aq1 hk
  refine AW.ins (AW.att h1 (k := k) hn (fun i m hm => by rw [show va_up (aout s 1 k).2.2 3 (va_up ((aout s 1 k).2.2 3) k (s.2.2 3 k - 1)) i m = (upV (aout s 1 k) 3 k (s.2.2 3 k - 1)).2.2 i m from rfl, upV_2, if_neg (fun z => hm z.2)])) aq1 hn ?_
  show k < 400 ∧ (1 ≤ (upV (aout s 1 k) 3 k (s.2.2 3 k - 1)).2.2 0 k ∧ (upV (aout s 1 k) 3 k (s.2.2 3 k - 1)).2.2 0 k ≤ 9) ∧ (upV (aout s 1 k) 3 k (s.2.2 3 k - 1)).2.2 1 k ≤ 99 ∧ (upV (aout s 1 k) 3 k (s.2.2 3 k - 1)).2.2 2 k ≤ 99 ∧ (upV (aout s 1 k) 3 k (s.2.2 3 k - 1)).2.2 3 k ≤ 9 ∧ (upV (aout s 1 k) 3 k (s.2.2 3 k - 1)).2.2 4 k ≤ 1 ∧ (3 ≤ 1 → _)
  simp only [upV_2]
  refine ⟨a.1, a.2.1, a.2.2.1, a.2.2.2.1, ?_, a.2.2.2.2.2.1, fun z => absurd z (by decide)⟩
  have := a.2.2.2.2.1
  simp; omega
theorem AW.go {s : AS} (h : AW s) {i k g : Nat} (hi : aq i) (hg : aq g) (hk : k ∈ s.1 i) : AW (ago s i k g) := by
  have h1 := h.out (k := k) hi
  have hn := fun j hj => out_not h hi hk (j := j) hj
  have a := h.2.2 i k hi hk
  refine AW.ins (AW.att h1 (k := k) hn (fun j m hm => by rw [show (if j = 0 then (aout s i k).2.2 0 else va_up ((aout s i k).2.2 j) k 0) m = (aghost (aout s i k) k).2.2 j m from rfl, aghost_2, if_neg (fun z => hm z.2)])) hg hn ?_
  show k < 400 ∧ (1 ≤ (aghost (aout s i k) k).2.2 0 k ∧ (aghost (aout s i k) k).2.2 0 k ≤ 9) ∧ (aghost (aout s i k) k).2.2 1 k ≤ 99 ∧ (aghost (aout s i k) k).2.2 2 k ≤ 99 ∧ (aghost (aout s i k) k).2.2 3 k ≤ 9 ∧ (aghost (aout s i k) k).2.2 4 k ≤ 1 ∧ (3 ≤ g → (aghost (aout s i k) k).2.2 4 k = 0)
  simp only [aghost_2]
  exact ⟨a.1, a.2.1, by simp, by simp, by simp, by simp, by simp⟩
