/-! weights as they lie; what trimming costs -/
def wS (s : AS) : Nat → Int32 := fun j => nI (wsum s j)
def bS (s : AS) : Int32 := nI (wsum s 1 + wsum s 2)
theorem nI_addneg (x b : Nat) : nI (x + b) + -nI b = nI x := by
  rw [← nI_add, Int32.add_assoc, Int32.add_right_neg, Int32.add_zero]
theorem wS_in (s : AS) (i k : Nat) : va_up (wS s) i (wS s i + nI (s.2.2 0 k)) = wS (ain s i k) := by
  funext j
  rw [va_up_at]
  unfold wS
  by_cases e : j = i
  · rw [if_pos e, e, wsum_in, nI_add]
  · rw [if_neg e]; unfold ain; rw [wsum_upQ _ e]
theorem wS_out {s : AS} {i k : Nat} (h : k ∈ s.1 i) : va_up (wS s) i (wS s i + -nI (s.2.2 0 k)) = wS (aout s i k) := by
  funext j
  rw [va_up_at]
  unfold wS
  by_cases e : j = i
  · rw [if_pos e, e, ← wsum_out h, nI_addneg]
  · rw [if_neg e]; unfold aout; rw [wsum_upQ _ e]
theorem bS_in (s : AS) {i : Nat} (k : Nat) (hi : aq i) : (if i ≤ 2 then bS s + nI (s.2.2 0 k) else bS s) = bS (ain s i k) := by
  unfold bS
  obtain ⟨h1, h4⟩ := hi
  by_cases c : i ≤ 2
  · rw [if_pos c, nI_add]
    congr 1
    rcases (show i = 1 ∨ i = 2 by omega) with rfl | rfl
    · rw [wsum_in, show wsum (ain s 1 k) 2 = wsum s 2 from wsum_upQ _ (by decide)]; omega
    · rw [wsum_in, show wsum (ain s 2 k) 1 = wsum s 1 from wsum_upQ _ (by decide)]; omega
  · rw [if_neg c, show wsum (ain s i k) 1 = wsum s 1 from wsum_upQ _ (by omega), show wsum (ain s i k) 2 = wsum s 2 from wsum_upQ _ (by omega)]
theorem bS_out {s : AS} {i k : Nat} (h : k ∈ s.1 i) (hi : aq i) : (if i ≤ 2 then bS s + -nI (s.2.2 0 k) else bS s) = bS (aout s i k) := by
  unfold bS
  obtain ⟨h1, h4⟩ := hi
  by_cases c : i ≤ 2
  · rw [if_pos c]
    have hw := wsum_out h
    rcases (show i = 1 ∨ i = 2 by omega) with rfl | rfl
    · rw [show wsum (aout s 1 k) 2 = wsum s 2 from wsum_upQ _ (by decide), ← hw, show wsum (aout s 1 k) 1 + s.2.2 0 k + wsum s 2 = wsum (aout s 1 k) 1 + wsum s 2 + s.2.2 0 k by omega, nI_addneg]
    · rw [show wsum (aout s 2 k) 1 = wsum s 1 from wsum_upQ _ (by decide), ← hw, ← Nat.add_assoc, nI_addneg]
  · rw [if_neg c, show wsum (aout s i k) 1 = wsum s 1 from wsum_upQ _ (by omega), show wsum (aout s i k) 2 = wsum s 2 from wsum_upQ _ (by omega)]
theorem wS_V {s : AS} {j k x : Nat} (h : j ≠ 0) : wS (upV s j k x) = wS s := by funext i; unfold wS; rw [wsum_V h]
theorem bS_V {s : AS} {j k x : Nat} (h : j ≠ 0) : bS (upV s j k x) = bS s := by unfold bS; rw [wsum_V h, wsum_V h]
theorem wS_g (s : AS) (k : Nat) : wS (aghost s k) = wS s := rfl
theorem bS_g (s : AS) (k : Nat) : bS (aghost s k) = bS s := rfl
/-- what may still be trimmed -/
def Phi (s : AS) : Nat := ((s.1 1).map (fun k => s.2.2 3 k + 2)).sum + ((s.1 2).map (fun k => s.2.2 3 k + 3)).sum + (s.1 3).length + (s.1 4).length
theorem sum_congr {f g : Nat → Nat} : ∀ {l : List Nat}, (∀ x ∈ l, f x = g x) → (l.map f).sum = (l.map g).sum
  | [], _ => rfl
  | a :: r, h => by
    rw [List.map_cons, List.map_cons, List.sum_cons, List.sum_cons, h a List.mem_cons_self, sum_congr fun x hx => h x (List.mem_cons_of_mem _ hx)]
theorem sum_snoc (f : Nat → Nat) (l : List Nat) (k : Nat) : ((l ++ [k]).map f).sum = (l.map f).sum + f k := by
  rw [List.map_append, List.sum_append]; simp
theorem len_erase {l : List Nat} {k : Nat} (h : k ∈ l) : (l.erase k).length + 1 = l.length := by
  rw [List.length_erase_of_mem h]
  have := List.length_pos_of_mem h
  omega
theorem Phi.fall {s : AS} (h : AW s) {k : Nat} (hk : k ∈ s.1 2) : Phi (afall s k) + 1 = Phi s := by
  have h1 : k ∉ s.1 1 := fun z => absurd (h.1 1 2 k aq1 aq2 z hk) (by decide)
  unfold Phi
  have e1 : (afall s k).1 1 = s.1 1 ++ [k] := rfl
  have e2 : (afall s k).1 2 = (s.1 2).erase k := rfl
  have e3 : (afall s k).1 3 = s.1 3 := rfl
  have e4 : (afall s k).1 4 = s.1 4 := rfl
  have ec : ∀ x, (afall s k).2.2 3 x = s.2.2 3 x := fun x => by
    show (upV (aout s 2 k) 2 k 0).2.2 3 x = _
    rw [upV_2, if_neg (fun z => absurd z.1 (by decide))]; rfl
  rw [e1, e2, e3, e4, sum_snoc]
  simp only [ec]
  have := sum_erase (f := fun k => s.2.2 3 k + 3) hk
  omega
theorem Phi.life {s : AS} (h : AW s) {k : Nat} (hk : k ∈ s.1 1) (hc : 0 < s.2.2 3 k) : Phi (alife s k) + 1 = Phi s := by
  have h2 : k ∉ s.1 2 := fun z => absurd (h.1 1 2 k aq1 aq2 hk z) (by decide)
  have h1 : k ∉ (s.1 1).erase k := fun z => ((mem_erase_iff (h.2.1 1 aq1)).mp z).2 rfl
  unfold Phi
  have e1 : (alife s k).1 1 = (s.1 1).erase k ++ [k] := rfl
  have e2 : (alife s k).1 2 = s.1 2 := rfl
  have e3 : (alife s k).1 3 = s.1 3 := rfl
  have e4 : (alife s k).1 4 = s.1 4 := rfl
  have ec : ∀ x, (alife s k).2.2 3 x = if x = k then s.2.2 3 k - 1 else s.2.2 3 x := fun x => by
    show (upV (aout s 1 k) 3 k (s.2.2 3 k - 1)).2.2 3 x = _
    rw [upV_2]
    by_cases e : x = k
    · rw [if_pos ⟨rfl, e⟩, if_pos e]
    · rw [if_neg (fun z => e z.2), if_neg e]; rfl
  rw [e1, e2, e3, e4, sum_snoc]
  simp only [ec]
  rw [if_pos trivial, sum_congr (l := (s.1 1).erase k) (g := fun k => s.2.2 3 k + 2) (fun x hx => by rw [if_neg (show ¬ x = k from fun z => h1 (z ▸ hx))]), sum_congr (l := s.1 2) (g := fun k => s.2.2 3 k + 3) (fun x hx => by rw [if_neg (show ¬ x = k from fun z => h2 (z ▸ hx))])]
  have := sum_erase (f := fun k => s.2.2 3 k + 2) hk
  omega
theorem Phi.go1 {s : AS} (h : AW s) {k : Nat} (hk : k ∈ s.1 1) : Phi (ago s 1 k 3) + 1 ≤ Phi s := by
  have h2 : k ∉ s.1 2 := fun z => absurd (h.1 1 2 k aq1 aq2 hk z) (by decide)
  have h1 : k ∉ (s.1 1).erase k := fun z => ((mem_erase_iff (h.2.1 1 aq1)).mp z).2 rfl
  unfold Phi
  have e1 : (ago s 1 k 3).1 1 = (s.1 1).erase k := rfl
  have e2 : (ago s 1 k 3).1 2 = s.1 2 := rfl
  have e3 : (ago s 1 k 3).1 3 = s.1 3 ++ [k] := rfl
  have e4 : (ago s 1 k 3).1 4 = s.1 4 := rfl
  have ec : ∀ x, x ≠ k → (ago s 1 k 3).2.2 3 x = s.2.2 3 x := fun x e => by
    show (aghost (aout s 1 k) k).2.2 3 x = _
    rw [aghost_2, if_neg (fun z => e z.2)]; rfl
  rw [e1, e2, e3, e4, List.length_append, sum_congr (l := (s.1 1).erase k) (g := fun k => s.2.2 3 k + 2) (fun x hx => by rw [ec x (fun z => h1 (z ▸ hx))]), sum_congr (l := s.1 2) (g := fun k => s.2.2 3 k + 3) (fun x hx => by rw [ec x (fun z => h2 (z ▸ hx))])]
  have := sum_erase (f := fun k => s.2.2 3 k + 2) hk
  show _ + _ + (_ + 1) + _ + 1 ≤ _
  omega
theorem Phi.go2 {s : AS} (h : AW s) {k : Nat} (hk : k ∈ s.1 2) : Phi (ago s 2 k 4) + 2 ≤ Phi s := by
  have h2 : k ∉ s.1 1 := fun z => absurd (h.1 1 2 k aq1 aq2 z hk) (by decide)
  have h1 : k ∉ (s.1 2).erase k := fun z => ((mem_erase_iff (h.2.1 2 aq2)).mp z).2 rfl
  unfold Phi
  have e1 : (ago s 2 k 4).1 1 = s.1 1 := rfl
  have e2 : (ago s 2 k 4).1 2 = (s.1 2).erase k := rfl
  have e3 : (ago s 2 k 4).1 3 = s.1 3 := rfl
  have e4 : (ago s 2 k 4).1 4 = s.1 4 ++ [k] := rfl
  have ec : ∀ x, x ≠ k → (ago s 2 k 4).2.2 3 x = s.2.2 3 x := fun x e => by
    show (aghost (aout s 2 k) k).2.2 3 x = _
    rw [aghost_2, if_neg (fun z => e z.2)]; rfl
  rw [e1, e2, e3, e4, List.length_append, sum_congr (l := (s.1 2).erase k) (g := fun k => s.2.2 3 k + 3) (fun x hx => by rw [ec x (fun z => h1 (z ▸ hx))]), sum_congr (l := s.1 1) (g := fun k => s.2.2 3 k + 2) (fun x hx => by rw [ec x (fun z => h2 (z ▸ hx))])]
  have := sum_erase (f := fun k => s.2.2 3 k + 3) hk
  show _ + _ + _ + (_ + 1) + 2 ≤ _
  omega
theorem Phi.out {s : AS} {i k : Nat} (hi : i = 3 ∨ i = 4) (hk : k ∈ s.1 i) : Phi (aout s i k) + 1 = Phi s := by
  unfold Phi
  have h1 := len_erase hk
  rcases hi with rfl | rfl
  · have e1 : (aout s 3 k).1 1 = s.1 1 := rfl
    have e2 : (aout s 3 k).1 2 = s.1 2 := rfl
    have e3 : (aout s 3 k).1 3 = (s.1 3).erase k := rfl
    have e4 : (aout s 3 k).1 4 = s.1 4 := rfl
    have ec : (aout s 3 k).2 = s.2 := rfl
    rw [e1, e2, e3, e4, ec]; omega
  · have e1 : (aout s 4 k).1 1 = s.1 1 := rfl
    have e2 : (aout s 4 k).1 2 = s.1 2 := rfl
    have e3 : (aout s 4 k).1 3 = s.1 3 := rfl
    have e4 : (aout s 4 k).1 4 = (s.1 4).erase k := rfl
    have ec : (aout s 4 k).2 = s.2 := rfl
    rw [e1, e2, e3, e4, ec]; omega
/-- how many are pinned in each queue at the most -/
def NP (s : AS) (p : Nat) : Prop := ∀ i, aq i → npin s i ≤ p
theorem npin_out (s : AS) (i k j : Nat) : npin (aout s i k) j ≤ npin s j := by
  unfold npin aout
  rw [upQ_1]
  split
  · rename_i e
    subst e
    exact ((List.erase_sublist).filter _).length_le
  · exact Nat.le_refl _
theorem npin_in {s : AS} {i k : Nat} (h : s.2.2 4 k = 0) (j : Nat) : npin (ain s i k) j = npin s j := by
  unfold npin ain
  rw [upQ_1]
  split
  · rename_i e
    subst e
    rw [List.filter_append, List.length_append]
    show _ + (List.filter (fun k => s.2.2 4 k != 0) [k]).length = _
    rw [List.filter_cons_of_neg (by simp [h])]
    rfl
  · rfl
theorem npin_V {s : AS} {j k x i : Nat} (h : j ≠ 4) : npin (upV s j k x) i = npin s i := by
  unfold npin
  have : (upV s j k x).2.2 4 = s.2.2 4 := by funext m; rw [upV_2, if_neg (fun z => h z.1.symm)]
  rw [this]; rfl
theorem npin_g {s : AS} {k i : Nat} (hk : k ∉ s.1 i) : npin (aghost s k) i = npin s i := by
  unfold npin
  congr 1
  refine List.filter_congr (fun x hx => ?_)
  rw [aghost_2, if_neg (show ¬ (4 ≠ 0 ∧ x = k) from fun z => hk (z.2 ▸ hx))]
theorem NP.fall {s : AS} {p k : Nat} (h : NP s p) (hk : s.2.2 4 k = 0) : NP (afall s k) p := by
  intro i hi
  unfold afall
  rw [npin_in (by rw [upV_2, if_neg (fun z => absurd z.1 (by decide))]; exact hk), npin_V (by decide)]
  exact Nat.le_trans (npin_out s 2 k i) (h i hi)
theorem NP.life {s : AS} {p k : Nat} (h : NP s p) (hk : s.2.2 4 k = 0) : NP (alife s k) p := by
  intro i hi
  unfold alife
  rw [npin_in (by rw [upV_2, if_neg (fun z => absurd z.1 (by decide))]; exact hk), npin_V (by decide)]
  exact Nat.le_trans (npin_out s 1 k i) (h i hi)
theorem NP.go {s : AS} {p i k g : Nat} (hA : AW s) (h : NP s p) (hi : aq i) (hk : k ∈ s.1 i) : NP (ago s i k g) p := by
  intro j hj
  unfold ago
  rw [npin_in (by rw [aghost_2, if_pos ⟨by decide, rfl⟩]), npin_g (out_not hA hi hk hj)]
  exact Nat.le_trans (npin_out s i k j) (h j hj)
theorem NP.out {s : AS} {p i k : Nat} (h : NP s p) : NP (aout s i k) p := fun j hj => Nat.le_trans (npin_out s i k j) (h j hj)
def cst (p : Nat) : Nat := 110 + 10 * p
