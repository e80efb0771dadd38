/-! pinned keys are of a list; what may be trimmed grows by little -/
def TP (s : AS) (PL : List Nat) : Prop := ∀ i k, aq i → k ∈ s.1 i → s.2.2 4 k ≠ 0 → k ∈ PL
theorem TP.np {s : AS} {PL : List Nat} (h : TP s PL) (A : AW s) : NP s PL.length := by
  intro i hi
  unfold npin
  have hn : ((s.1 i).filter (fun k => s.2.2 4 k != 0)).Nodup := (A.2.1 i hi).filter _
  refine hn.length_le_of_subset (fun k hk => ?_)
  obtain ⟨h1, h2⟩ := List.mem_filter.mp hk
  exact h i k hi h1 (by simpa using h2)
theorem TP.out {s : AS} {PL : List Nat} (h : TP s PL) (i k : Nat) : TP (aout s i k) PL := by
  intro j m hj hm hp
  refine h j m hj ?_ hp
  unfold aout at hm
  rw [upQ_1] at hm
  split at hm
  · rename_i e; subst e; exact List.mem_of_mem_erase hm
  · exact hm
theorem TP.ins {s : AS} {PL : List Nat} (h : TP s PL) {i k : Nat} (hk : s.2.2 4 k ≠ 0 → k ∈ PL) : TP (ain s i k) PL := by
  intro j m hj hm hp
  unfold ain at hm
  rw [upQ_1] at hm
  split at hm
  · rename_i e; subst e
    rcases List.mem_append.mp hm with hm | hm
    · exact h j m hj hm hp
    · rw [List.mem_singleton.mp hm] at hp ⊢; exact hk hp
  · exact h j m hj hm hp
theorem TP.att {s : AS} {PL : List Nat} (h : TP s PL) {v : Nat → Int32} {V : Nat → Nat → Nat} (g : ∀ m, V 4 m ≠ 0 → s.2.2 4 m ≠ 0) : TP (s.1, v, V) PL := fun j m hj hm hp => h j m hj hm (g m hp)
theorem TP.V {s : AS} {PL : List Nat} (h : TP s PL) {j k x : Nat} (hj : j ≠ 4) : TP (upV s j k x) PL := TP.att (V := (upV s j k x).2.2) h (fun m hm => by rw [upV_2, if_neg (fun z => hj z.1.symm)] at hm; exact hm)
theorem TP.g {s : AS} {PL : List Nat} (h : TP s PL) (k : Nat) : TP (aghost s k) PL := TP.att (V := (aghost s k).2.2) h (fun m hm => by
  rw [aghost_2] at hm
  split at hm
  · exact absurd rfl hm
  · exact hm)
theorem TP.fall {s : AS} {PL : List Nat} (h : TP s PL) {k : Nat} (hk : s.2.2 4 k = 0) : TP (afall s k) PL := ((h.out 2 k).V (by decide)).ins (fun z => by rw [upV_2, if_neg (fun z => absurd z.1 (by decide))] at z; exact absurd hk z)
theorem TP.life {s : AS} {PL : List Nat} (h : TP s PL) {k : Nat} (hk : s.2.2 4 k = 0) : TP (alife s k) PL := ((h.out 1 k).V (by decide)).ins (fun z => by rw [upV_2, if_neg (fun z => absurd z.1 (by decide))] at z; exact absurd hk z)
theorem TP.go {s : AS} {PL : List Nat} (h : TP s PL) (i k g : Nat) : TP (ago s i k g) PL := ((h.out i k).g k).ins (fun z => by rw [aghost_2, if_pos ⟨by decide, rfl⟩] at z; exact absurd rfl z)
theorem TP.trim {s s' : AS} {PL : List Nat} {cap bor fu : Nat} {gs : List Nat} (h : TP s PL) (A : AW s) (hT : atrim cap bor fu s s' gs) : TP s' PL ∧ AW s' := by
  obtain ⟨s1, s2, s3, t1, t2, t3, t4⟩ := hT
  have a1 : ∀ (f : Nat) (s s' : AS), TP s PL → AW s → asinks bor f s = some s' → TP s' PL ∧ AW s' := by
    intro f
    induction f with
    | zero => intro s s' _ _ h; cases h
    | succ f ih =>
      intro s s' hp A h
      unfold asinks at h
      split at h
      · split at h
        · cases h; exact ⟨hp, A⟩
        · rename_i k hk
          have := aold_some hk
          exact ih _ _ (hp.fall this.2) (A.fall this.1) h
      · cases h; exact ⟨hp, A⟩
  have a2 : ∀ (f : Nat) (s s' : AS) (g g' : List Nat), TP s PL → AW s → alets cap f s g = some (s', g') → TP s' PL ∧ AW s' := by
    intro f
    induction f with
    | zero => intro s s' g g' _ _ h; cases h
    | succ f ih =>
      intro s s' g g' hp A h
      unfold alets at h
      split at h
      · split at h
        · rename_i k hk
          have := aold_some hk
          split at h
          · exact ih _ _ _ _ (hp.life this.2) (A.life this.1) h
          · exact ih _ _ _ _ (hp.go _ _ _) (A.go aq1 aq3 this.1) h
        · split at h
          · rename_i k hk
            have := aold_some hk
            exact ih _ _ _ _ (hp.go _ _ _) (A.go aq2 aq4 this.1) h
          · cases h; exact ⟨hp, A⟩
      · cases h; exact ⟨hp, A⟩
  have a3 : ∀ (i : Nat), aq i → ∀ (f : Nat) (s s' : AS), TP s PL → AW s → afade cap i f s = some s' → TP s' PL ∧ AW s' := by
    intro i hi f
    induction f with
    | zero => intro s s' _ _ h; cases h
    | succ f ih =>
      intro s s' hp A h
      unfold afade at h
      split at h
      · split at h
        · cases h
        · exact ih _ _ (hp.out _ _) (A.out hi) h
      · cases h; exact ⟨hp, A⟩
  have b1 := a1 _ _ _ h A t1
  have b2 := a2 _ _ _ _ _ b1.1 b1.2 t2
  have b3 := a3 3 aq3 _ _ _ b2.1 b2.2 t3
  exact a3 4 aq4 _ _ _ b3.1 b3.2 t4
theorem TP.hit {s : AS} {PL : List Nat} (h : TP s PL) {ris k : Nat} (hq : k ∈ s.1 1 ∨ k ∈ s.1 2) : TP (ahit s ris k) PL := by
  have hk : s.2.2 4 k ≠ 0 → k ∈ PL := fun z => hq.elim (fun w => h 1 k aq1 w z) (fun w => h 2 k aq2 w z)
  unfold ahit
  have h1 : TP (upV s 2 k (min 99 (s.2.2 2 k + 1))) PL := h.V (by decide)
  have hk1 : (upV s 2 k (min 99 (s.2.2 2 k + 1))).2.2 4 k ≠ 0 → k ∈ PL := fun z => hk (by rw [upV_2, if_neg (fun z => absurd z.1 (by decide))] at z; exact z)
  simp only
  split
  · exact (h1.out 1 k).ins hk1
  · exact (h1.out 2 k).ins hk1
theorem TP.chg {s : AS} {PL : List Nat} (h : TP s PL) (k : Nat) (v : Int32) (x co : Nat) : TP (achg s k v x co) PL := (TP.V (s := upL s k v) h (j := 1) (by decide)).V (by decide)
theorem TP.drop {s : AS} {PL : List Nat} (h : TP s PL) (k : Nat) : TP (adrop s k) PL := by
  unfold adrop
  split
  · exact h
  · exact h.out _ _
theorem TP.put {s : AS} {PL : List Nat} (h : TP s PL) (C : Nat → Nat) (k : Nat) (v : Int32) (x co : Nat) : TP (aputS s C k v x co) PL := by
  unfold aputS
  split
  · rename_i hq
    exact (h.chg k v x co).hit hq
  · refine TP.ins (TP.att (V := (anew (adrop s k) k v x co (if awhere s k = 0 then C 3 else 0)).2.2) (h.drop k) (fun m hm => ?_)) (fun z => absurd (va_up_self _ _ _) z)
    by_cases e : m = k
    · rw [e] at hm
      exact absurd (va_up_self _ _ _) hm
    · rw [anew_ne _ _ _ _ _ _ _ e] at hm
      exact hm
theorem AW.hit {s : AS} (A : AW s) {ris k : Nat} (hq : k ∈ s.1 1 ∨ k ∈ s.1 2) : AW (ahit s ris k) := by
  have A1 : AW (upV s 2 k (min 99 (s.2.2 2 k + 1))) := A.V (Or.inr (Or.inl ⟨rfl, Nat.min_le_left _ _⟩))
  unfold ahit
  simp only
  split
  · rename_i h1
    have a := A1.2.2 1 k aq1 h1
    have hn := fun j hj => out_not A1 aq1 h1 (j := j) hj
    split
    · exact (A1.out aq1).ins aq1 hn ⟨a.1, a.2.1, a.2.2.1, a.2.2.2.1, a.2.2.2.2.1, a.2.2.2.2.2.1, fun z => absurd z (by decide)⟩
    · exact (A1.out aq1).ins aq2 hn ⟨a.1, a.2.1, a.2.2.1, a.2.2.2.1, a.2.2.2.2.1, a.2.2.2.2.2.1, fun z => absurd z (by decide)⟩
  · rename_i h1
    have h2 := hq.resolve_left h1
    have a := A1.2.2 2 k aq2 h2
    have hn := fun j hj => out_not A1 aq2 h2 (j := j) hj
    exact (A1.out aq2).ins aq2 hn ⟨a.1, a.2.1, a.2.2.1, a.2.2.2.1, a.2.2.2.2.1, a.2.2.2.2.2.1, fun z => absurd z (by decide)⟩
theorem AW.drop {s : AS} (A : AW s) (k : Nat) : AW (adrop s k) := by
  unfold adrop
  split
  · exact A
  · rename_i h
    exact A.out (awhere_mem h).1
theorem drop_not {s : AS} (A : AW s) (k : Nat) {j : Nat} (hj : aq j) : k ∉ (adrop s k).1 j := by
  unfold adrop
  split
  · rename_i h
    intro z
    have := awhere_of A hj z
    have := hj.1
    omega
  · rename_i h
    exact out_not A (awhere_mem h).1 (awhere_mem h).2 hj
theorem AW.chg {s : AS} (A : AW s) {k : Nat} {v : Int32} {x co : Nat} (hx : 1 ≤ x ∧ x ≤ 9) (hco : co ≤ 99) : AW (achg s k v x co) := AW.V (AW.V (s := upL s k v) A (Or.inl ⟨rfl, hco⟩)) (Or.inr (Or.inr (Or.inr (Or.inl ⟨rfl, hx⟩))))
theorem AW.put {s : AS} (A : AW s) {C : Nat → Nat} {k : Nat} {v : Int32} {x co : Nat} (hk : k < 400) (hx : 1 ≤ x ∧ x ≤ 9) (hco : co ≤ 99) (hC3 : C 3 ≤ 9) : AW (aputS s C k v x co) := by
  unfold aputS
  split
  · rename_i hq
    exact (A.chg hx hco).hit hq
  · have A2 : AW (anew (adrop s k) k v x co (if awhere s k = 0 then C 3 else 0)) := AW.att (A.drop k) (fun j hj => drop_not A k hj) (fun i m hm => anew_ne (adrop s k) k v x co (if awhere s k = 0 then C 3 else 0) i hm)
    exact A2.ins (by split; exact aq1; exact aq2) (fun j hj => drop_not A k hj) (anew_ok hk hx hco (by split <;> omega))
/-! how much more may be trimmed -/
def Phi0 (s : AS) (k : Nat) : Nat := (if k ∈ s.1 1 then s.2.2 3 k + 2 else 0) + (if k ∈ s.1 2 then s.2.2 3 k + 3 else 0) + (if k ∈ s.1 3 then 1 else 0) + (if k ∈ s.1 4 then 1 else 0)
theorem Phi.outq {s : AS} {i k : Nat} (hi : aq i) (hk : k ∈ s.1 i) : Phi (aout s i k) + (if i = 1 then s.2.2 3 k + 2 else if i = 2 then s.2.2 3 k + 3 else 1) = Phi s := by
  obtain ⟨h1, h4⟩ := hi
  rcases (show i = 1 ∨ i = 2 ∨ i = 3 ∨ i = 4 by omega) with rfl | rfl | rfl | rfl
  · have := sum_erase (f := fun k => s.2.2 3 k + 2) hk
    unfold Phi
    have e1 : (aout s 1 k).1 1 = (s.1 1).erase k := rfl
    have e2 : (aout s 1 k).1 2 = s.1 2 := rfl
    have e3 : (aout s 1 k).1 3 = s.1 3 := rfl
    have e4 : (aout s 1 k).1 4 = s.1 4 := rfl
    have ec : (aout s 1 k).2 = s.2 := rfl
    rw [e1, e2, e3, e4, ec]
    simp
    omega
  · have := sum_erase (f := fun k => s.2.2 3 k + 3) hk
    unfold Phi
    have e1 : (aout s 2 k).1 1 = s.1 1 := rfl
    have e2 : (aout s 2 k).1 2 = (s.1 2).erase k := rfl
    have e3 : (aout s 2 k).1 3 = s.1 3 := rfl
    have e4 : (aout s 2 k).1 4 = s.1 4 := rfl
    have ec : (aout s 2 k).2 = s.2 := rfl
    rw [e1, e2, e3, e4, ec]
    simp
    omega
  · exact Phi.out (Or.inl rfl) hk
  · exact Phi.out (Or.inr rfl) hk
theorem Phi.inq (s : AS) (k : Nat) {i : Nat} (hi : i = 1 ∨ i = 2) : Phi (ain s i k) = Phi s + (if i = 1 then s.2.2 3 k + 2 else s.2.2 3 k + 3) := by
  unfold Phi
  rcases hi with rfl | rfl
  · have e1 : (ain s 1 k).1 1 = s.1 1 ++ [k] := rfl
    have e2 : (ain s 1 k).1 2 = s.1 2 := rfl
    have e3 : (ain s 1 k).1 3 = s.1 3 := rfl
    have e4 : (ain s 1 k).1 4 = s.1 4 := rfl
    have ec : (ain s 1 k).2 = s.2 := rfl
    rw [e1, e2, e3, e4, ec, sum_snoc]
    simp
    omega
  · have e1 : (ain s 2 k).1 1 = s.1 1 := rfl
    have e2 : (ain s 2 k).1 2 = s.1 2 ++ [k] := rfl
    have e3 : (ain s 2 k).1 3 = s.1 3 := rfl
    have e4 : (ain s 2 k).1 4 = s.1 4 := rfl
    have ec : (ain s 2 k).2 = s.2 := rfl
    rw [e1, e2, e3, e4, ec, sum_snoc]
    simp
    omega
theorem Phi.V {s : AS} {j k x : Nat} (hj : j ≠ 3) : Phi (upV s j k x) = Phi s := by
  unfold Phi
  have : (upV s j k x).2.2 3 = s.2.2 3 := by funext m; rw [upV_2, if_neg (fun z => hj z.1.symm)]
  rw [this]
  rfl
theorem Phi.hit {s : AS} (A : AW s) {ris k : Nat} (hq : k ∈ s.1 1 ∨ k ∈ s.1 2) : Phi (ahit s ris k) ≤ Phi s + 1 := by
  unfold ahit
  simp only
  have e0 : Phi (upV s 2 k (min 99 (s.2.2 2 k + 1))) = Phi s := Phi.V (by decide)
  generalize hs : upV s 2 k (min 99 (s.2.2 2 k + 1)) = s1 at e0
  have q1 : s1.1 = s.1 := by rw [← hs]; rfl
  split
  · rename_i h1
    have := Phi.outq (s := s1) aq1 (by rw [q1]; exact h1)
    rw [if_pos rfl] at this
    have e : (aout s1 1 k).2.2 3 k = s1.2.2 3 k := rfl
    by_cases c : min 99 (s.2.2 2 k + 1) < ris
    · rw [if_pos c, Phi.inq _ _ (Or.inl rfl), if_pos rfl, e]; omega
    · rw [if_neg c, Phi.inq _ _ (Or.inr rfl), if_neg (by decide), e]; omega
  · rename_i h1
    have := Phi.outq (s := s1) aq2 (by rw [q1]; exact hq.resolve_left h1)
    rw [if_neg (by decide), if_pos rfl] at this
    rw [Phi.inq _ _ (Or.inr rfl), if_neg (by decide)]
    have e : (aout s1 2 k).2.2 3 k = s1.2.2 3 k := rfl
    rw [e]
    omega
theorem Phi.drop (s : AS) (k : Nat) : Phi (adrop s k) ≤ Phi s := by
  unfold adrop
  split
  · exact Nat.le_refl _
  · rename_i h
    have := Phi.outq (awhere_mem h).1 (awhere_mem h).2
    omega
theorem Phi.put {s : AS} (A : AW s) {C : Nat → Nat} {k : Nat} {v : Int32} {x co : Nat} (hx : 1 ≤ x ∧ x ≤ 9) (hco : co ≤ 99) (hC3 : C 3 ≤ 9) : Phi (aputS s C k v x co) ≤ Phi s + 12 := by
  unfold aputS
  split
  · rename_i hq
    have h1 := Phi.hit (ris := C 2) (A.chg (k := k) (v := v) hx hco) (k := k) hq
    have h2 : Phi (achg s k v x co) = Phi s := by
      unfold achg
      rw [Phi.V (by decide), Phi.V (by decide)]
      rfl
    omega
  · have h1 := Phi.drop s k
    have h2 : ∀ ch, Phi (anew (adrop s k) k v x co ch) = Phi (adrop s k) := by
      intro ch
      unfold Phi
      have e : (anew (adrop s k) k v x co ch).1 = (adrop s k).1 := rfl
      rw [e, sum_congr (l := (adrop s k).1 1) (g := fun m => (adrop s k).2.2 3 m + 2) (fun m hm => by rw [anew_ne _ _ _ _ _ _ _ (fun z => by subst z; exact drop_not A m aq1 hm)]), sum_congr (l := (adrop s k).1 2) (g := fun m => (adrop s k).2.2 3 m + 3) (fun m hm => by rw [anew_ne _ _ _ _ _ _ _ (fun z => by subst z; exact drop_not A m aq2 hm)])]
    have e3 : ∀ ch, (anew (adrop s k) k v x co ch).2.2 3 k = ch := fun ch => va_up_self _ _ _
    by_cases c : awhere s k = 0
    · rw [if_pos c, if_pos c, Phi.inq _ _ (Or.inl rfl), if_pos rfl, h2, e3]; omega
    · rw [if_neg c, if_neg c, Phi.inq _ _ (Or.inr rfl), if_neg (by decide), h2, e3]; omega
