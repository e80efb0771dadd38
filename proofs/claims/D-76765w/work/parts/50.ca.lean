/-! A CACHE IN THE HEAP: its tags b+1 .. b+4 (maps), b+5 (things), b+6 (itself, its queues), b+7 (the deque) -/
abbrev CY : Type := (Nat → Nat) × (Nat → Nat) × Nat
def thO (s : AS) (k : Nat) : List Value := [.int (s.2.1 k), .int (nI (s.2.2 0 k)), .int (nI (s.2.2 1 k)), .int (nI (s.2.2 2 k)), .int (nI (s.2.2 3 k)), .int (nI (s.2.2 4 k))]
def caO (C : Nat → Nat) (y : CY) (bo : Int32) : List Value := [.int (nI (C 0)), .int (nI (C 1)), .int (nI (C 2)), .int (nI (C 3)), .int (nI (C 4)), .int (nI (C 5)), .int (nI (C 6)), .int (nI (C 7)), .int (nI (C 8)), .int (nI (C 9)), .ref (y.1 1), .ref (y.1 2), .ref (y.1 3), .ref (y.1 4), .ref y.2.2, .int bo]
def CT (b : Nat) (x : Nat) : Prop := (b + 1 ≤ x ∧ x ≤ b + 7) ∨ x = 6
def CI (K : JK) (b : Nat) (h : JIH) (c : Nat) (y : CY) (s : AS) (C : Nat → Nat) (P : List (Nat × Nat)) (w : Nat → Int32) (bo : Int32) (ta : Nat → Nat) (D : List Nat) (ea ka : Nat → Nat → Nat) (n : Nat → Nat) (mc : Nat → Int32) : Prop :=
  hc h (b + 6) c (jO 1 (caO C y bo)) ∧ (∀ i, aq i → hc h (b + 6) (y.1 i) (jO 2 [.ref (y.2.1 i), .int (w i), .ref c])) ∧ (∀ i, aq i → LM K (b + i) h (y.2.1 i) (s.1 i) (ea i) (ka i) ta (n i) (mc i)) ∧
  (∀ k ∈ D, hc h (b + 5) (ta k) (jO 7 (thO s k))) ∧ (∀ k ∈ D, ∀ k' ∈ D, ta k = ta k' → k = k') ∧ (∀ i k, aq i → k ∈ s.1 i → k ∈ D) ∧ DQ K (b + 7) h y.2.2 P ∧ (∀ i j, aq i → aq j → y.1 i = y.1 j → i = j) ∧ (b = 16 ∨ b = 32)
def tzs (n : Nat → Nat) : Nat := 3 * (n 1 + n 2 + n 3 + n 4)
theorem tzs_up (n : Nat → Nat) {i : Nat} (hi : aq i) (x : Nat) : tzs (va_up n i x) + 3 * n i = tzs n + 3 * x := by
  unfold tzs
  rcases (show i = 1 ∨ i = 2 ∨ i = 3 ∨ i = 4 by have := hi.1; have := hi.2; omega) with rfl | rfl | rfl | rfl <;> simp [va_up_at] <;> omega
def CR (K : JK) (b : Nat) (h : JIH) (c : Nat) (y : CY) (s : AS) (C : Nat → Nat) (P : List (Nat × Nat)) (w : Nat → Int32) (bo : Int32) (ta : Nat → Nat) (D : List Nat) (tz : Nat) : Prop :=
  ∃ (ea ka : Nat → Nat → Nat) (n : Nat → Nat) (mc : Nat → Int32), CI K b h c y s C P w bo ta D ea ka n mc ∧ tz = tzs n
/-- values of things stay -/
def VF (b : Nat) (h h' : JIH) : Prop := b ≠ 1 → ∀ (A : Nat) (v : Int32) (fs : List Value), hc h (b + 5) A (jO 7 (.int v :: fs)) → ∃ fs', hc h' (b + 5) A (jO 7 (.int v :: fs'))
def FV (b : Nat) (h h' : JIH) : Prop := Fr (CT b) h h' ∧ VF b h h'
theorem FV.rf (b : Nat) (h : JIH) : FV b h h := ⟨Fr.rf _ _, fun _ _ _ _ g => ⟨_, g⟩⟩
theorem FV.tr {b : Nat} {h h1 h2 : JIH} (f : FV b h h1) (g : FV b h1 h2) : FV b h h2 := ⟨f.1.tr g.1, fun hb A v fs z => by
  obtain ⟨fs1, z1⟩ := f.2 hb A v fs z
  exact g.2 hb A v fs1 z1⟩
theorem FV.of {b : Nat} {h h' : JIH} {T : Nat → Prop} (f : Fr T h h') (hT : ∀ x, T x → CT b x) (h5 : b ≠ 1 → ¬ T (b + 5)) : FV b h h' := ⟨f.mono hT, fun hb A v fs z => ⟨fs, z.fr f (h5 hb)⟩⟩
theorem FV.th {b : Nat} {h : JIH} {A : Nat} {v : Int32} {fs fs' : List Value} (c : hc h (b + 5) A (jO 7 (.int v :: fs))) : FV b h (hset h A (jO 7 (.int v :: fs'))) := by
  refine ⟨(Fr.set (T := fun x => x = b + 5) c rfl).mono (fun x hx => by rw [hx]; exact Or.inl ⟨by omega, by omega⟩), fun _ B u gs z => ?_⟩
  by_cases e : A = B
  · subst e
    have := Option.some.inj (c.1.symm.trans z.1)
    have := (jO_inj this).2
    injection this with e1 e2
    injection e1 with e1
    subst e1
    exact ⟨fs', c.same _⟩
  · exact ⟨gs, z.ne _ e⟩
/-- from h to h' with at most c of room, tables' sizes set off -/
def CF (b : Nat) (h : JIH) (tz c : Nat) (h' : JIH) (tz' : Nat) : Prop := FV b h h' ∧ hres h' + tz ≤ hres h + c + tz'
def RM (h : JIH) (tz c : Nat) : Prop := hres h + c + 30000 ≤ jRL + tz
theorem CF.rf (b : Nat) (h : JIH) (tz : Nat) : CF b h tz 0 h tz := ⟨FV.rf _ _, by omega⟩
theorem CF.tr {b : Nat} {h h1 h2 : JIH} {tz tz1 tz2 c1 c2 : Nat} (f : CF b h tz c1 h1 tz1) (g : CF b h1 tz1 c2 h2 tz2) : CF b h tz (c1 + c2) h2 tz2 := ⟨f.1.tr g.1, by have := f.2; have := g.2; omega⟩
theorem CF.mono {b : Nat} {h h1 : JIH} {tz tz1 c1 c2 : Nat} (f : CF b h tz c1 h1 tz1) (g : c1 ≤ c2) : CF b h tz c2 h1 tz1 := ⟨f.1, by have := f.2; omega⟩
theorem CF.rm {b : Nat} {h h1 : JIH} {tz tz1 c1 c2 c3 : Nat} (f : CF b h tz c1 h1 tz1) (r : RM h tz c3) (g : c1 + c2 ≤ c3) : RM h1 tz1 c2 := by
  have := f.2
  unfold RM at r ⊢
  omega
theorem RM.mono {h : JIH} {tz c1 c2 : Nat} (r : RM h tz c2) (g : c1 ≤ c2) : RM h tz c1 := by unfold RM at r ⊢; omega
section
variable {K : JK} {b : Nat} {h h' : JIH} {c : Nat} {y : CY} {s : AS} {C : Nat → Nat} {P : List (Nat × Nat)} {w : Nat → Int32} {bo : Int32} {ta : Nat → Nat} {D : List Nat} {ea ka : Nat → Nat → Nat} {n : Nat → Nat} {mc : Nat → Int32} {tz : Nat}
theorem CI.fr {T : Nat → Prop} (S : CI K b h c y s C P w bo ta D ea ka n mc) (g : Fr T h h') (ht : ∀ x, b + 1 ≤ x → x ≤ b + 7 → ¬ T x) (h1 : ¬ T 1) : CI K b h' c y s C P w bo ta D ea ka n mc := by
  obtain ⟨c1, c2, c3, c4, c5, c6, c7, c8, c9⟩ := S
  exact ⟨c1.fr g (ht _ (by omega) (by omega)), fun i hi => (c2 i hi).fr g (ht _ (by omega) (by omega)), fun i hi => (c3 i hi).fr g (ht _ (by have := hi.1; omega) (by have := hi.2; omega)) h1, fun k hk => (c4 k hk).fr g (ht _ (by omega) (by omega)), c5, c6, c7.fr g (ht _ (by omega) (by omega)) h1, c8, c9⟩
theorem CR.fr {T : Nat → Prop} (S : CR K b h c y s C P w bo ta D tz) (g : Fr T h h') (ht : ∀ x, b + 1 ≤ x → x ≤ b + 7 → ¬ T x) (h1 : ¬ T 1) : CR K b h' c y s C P w bo ta D tz := by
  obtain ⟨ea, ka, n, mc, S, e⟩ := S
  exact ⟨ea, ka, n, mc, S.fr g ht h1, e⟩
theorem CI.tz1 (S : CI K b h c y s C P w bo ta D ea ka n mc) : tzs n ≤ 12288 := by
  have a1 := (S.2.2.1 1 aq1).n1
  have a2 := (S.2.2.1 2 aq2).n1
  have a3 := (S.2.2.1 3 aq3).n1
  have a4 := (S.2.2.1 4 aq4).n1
  unfold tzs
  omega
theorem CR.tz1 (S : CR K b h c y s C P w bo ta D tz) : tz ≤ 12288 := by
  obtain ⟨ea, ka, n, mc, S, rfl⟩ := S
  exact S.tz1
theorem CR.rm8 {cc : Nat} (S : CR K b h c y s C P w bo ta D tz) (r : RM h tz cc) : hres h + cc + 17000 ≤ jRL := by
  have := S.tz1
  unfold RM at r
  omega
theorem CR.o (S : CR K b h c y s C P w bo ta D tz) : hc h (b + 6) c (jO 1 (caO C y bo)) := by
  obtain ⟨ea, ka, n, mc, S, e⟩ := S
  exact S.1
theorem CR.q (S : CR K b h c y s C P w bo ta D tz) {i : Nat} (hi : aq i) : hc h (b + 6) (y.1 i) (jO 2 [.ref (y.2.1 i), .int (w i), .ref c]) := by
  obtain ⟨ea, ka, n, mc, S, e⟩ := S
  exact S.2.1 i hi
theorem CR.th (S : CR K b h c y s C P w bo ta D tz) {k : Nat} (hk : k ∈ D) : hc h (b + 5) (ta k) (jO 7 (thO s k)) := by
  obtain ⟨ea, ka, n, mc, S, e⟩ := S
  exact S.2.2.2.1 k hk
theorem CR.dm (S : CR K b h c y s C P w bo ta D tz) {i k : Nat} (hi : aq i) (hk : k ∈ s.1 i) : k ∈ D := by
  obtain ⟨ea, ka, n, mc, S, e⟩ := S
  exact S.2.2.2.2.2.1 i k hi hk
theorem CR.qne (S : CR K b h c y s C P w bo ta D tz) {i j : Nat} (hi : aq i) (hj : aq j) (e : y.1 i = y.1 j) : i = j := by
  obtain ⟨ea, ka, n, mc, S, e'⟩ := S
  exact S.2.2.2.2.2.2.2.1 i j hi hj e
theorem CR.bb (S : CR K b h c y s C P w bo ta D tz) : b = 16 ∨ b = 32 := by
  obtain ⟨ea, ka, n, mc, S, e⟩ := S
  exact S.2.2.2.2.2.2.2.2
theorem CR.dq (S : CR K b h c y s C P w bo ta D tz) : DQ K (b + 7) h y.2.2 P := by
  obtain ⟨ea, ka, n, mc, S, e⟩ := S
  exact S.2.2.2.2.2.2.1
theorem CR.gd (S : CR K b h c y s C P w bo ta D tz) : ∃ fs, hc h (b + 7) y.2.2 (jO 14 fs) := S.dq.ob
theorem CR.lm (S : CR K b h c y s C P w bo ta D tz) {i : Nat} (hi : aq i) : ∃ (ea ka : Nat → Nat) (n : Nat) (mc : Int32), LM K (b + i) h (y.2.1 i) (s.1 i) ea ka ta n mc := by
  obtain ⟨ea, ka, n, mc, S, e⟩ := S
  exact ⟨_, _, _, _, S.2.2.1 i hi⟩
theorem CR.mp (S : CR K b h c y s C P w bo ta D tz) {i : Nat} (hi : aq i) : ∃ fs, hc h (b + i) (y.2.1 i) (jO 12 fs) := by
  obtain ⟨ea, ka, n, mc, L⟩ := S.lm hi
  exact L.ob
/-- the map of a queue has changed (tag b + i alone) -/
theorem CI.map {i : Nat} (S : CI K b h c y s C P w bo ta D ea ka n mc) (hi : aq i) (g : Fr (fun x => x = b + i) h h') {Q' : List Nat} {ea' ka' ta' : Nat → Nat} {n' : Nat} {mc' : Int32} (L : LM K (b + i) h' (y.2.1 i) Q' ea' ka' ta' n' mc') (hQ : ∀ k ∈ Q', k ∈ D) (hta : ∀ k ∈ D, ta' k = ta k) : CI K b h' c y (upQ s i Q') C P w bo ta' D (va_up ea i ea') (va_up ka i ka') (va_up n i n') (va_up mc i mc') := by
  obtain ⟨c1, c2, c3, c4, c5, c6, c7, c8, c9⟩ := S
  have hi' := hi
  obtain ⟨l1, l2⟩ := hi'
  refine ⟨c1.fr g (by omega), fun j hj => (c2 j hj).fr g (by omega), fun j hj => ?_, fun k hk => ?_, fun k hk k' hk' e => ?_, fun j k hj hk => ?_, c7.fr g (by omega) (by omega), c8, c9⟩
  · rw [upQ_1]
    by_cases e : j = i
    · subst e
      rw [if_pos rfl, va_up_self, va_up_self, va_up_self, va_up_self]
      exact L
    · rw [if_neg e, va_up_ne _ _ e, va_up_ne _ _ e, va_up_ne _ _ e, va_up_ne _ _ e]
      exact ((c3 j hj).fr g (by omega) (by omega)).congr (fun k hk => ⟨rfl, hta k (c6 j k hj hk)⟩)
  · rw [hta k hk]
    exact (c4 k hk).fr g (by omega)
  · rw [hta k hk, hta k' hk'] at e
    exact c5 k hk k' hk' e
  · rw [upQ_1] at hk
    by_cases e : j = i
    · rw [if_pos e] at hk; exact hQ k hk
    · rw [if_neg e] at hk; exact c6 j k hj hk
/-- a queue's weight is written -/
theorem CR.wq {i : Nat} (S : CR K b h c y s C P w bo ta D tz) (hi : aq i) (x : Int32) : CR K b (hset h (y.1 i) (jO 2 [.ref (y.2.1 i), .int x, .ref c])) c y s C P (va_up w i x) bo ta D tz := by
  obtain ⟨ea, ka, n, mc, S, e⟩ := S
  have cq := S.2.1 i hi
  have g : Fr (fun x => x = b + 6) h (hset h (y.1 i) (jO 2 [.ref (y.2.1 i), .int x, .ref c])) := Fr.set cq rfl
  obtain ⟨c1, c2, c3, c4, c5, c6, c7, c8, c9⟩ := S
  refine ⟨ea, ka, n, mc, ⟨c1.ne _ (cq.apE c1 (jO_ne (by decide))), fun j hj => ?_, fun j hj => (c3 j hj).fr g (by have := hj.2; omega) (by omega), fun k hk => (c4 k hk).fr g (by omega), c5, c6, c7.fr g (by omega) (by omega), c8, c9⟩, e⟩
  by_cases e : j = i
  · subst e; rw [va_up_self]; exact cq.same _
  · rw [va_up_ne _ _ e]; exact (c2 j hj).ne _ (fun z => e (c8 i j hi hj z).symm)
/-- the cache itself is written -/
theorem CR.wo (S : CR K b h c y s C P w bo ta D tz) (C' : Nat → Nat) (bo' : Int32) : CR K b (hset h c (jO 1 (caO C' y bo'))) c y s C' P w bo' ta D tz := by
  obtain ⟨ea, ka, n, mc, S, e⟩ := S
  obtain ⟨c1, c2, c3, c4, c5, c6, c7, c8, c9⟩ := S
  have g : Fr (fun x => x = b + 6) h (hset h c (jO 1 (caO C' y bo'))) := Fr.set c1 rfl
  exact ⟨ea, ka, n, mc, ⟨c1.same _, fun j hj => (c2 j hj).ne _ (c1.apE (c2 j hj) (jO_ne (by decide))), fun j hj => (c3 j hj).fr g (by have := hj.2; omega) (by omega), fun k hk => (c4 k hk).fr g (by omega), c5, c6, c7.fr g (by omega) (by omega), c8, c9⟩, e⟩
/-- a thing is written -/
theorem CR.wt {k : Nat} (S : CR K b h c y s C P w bo ta D tz) (hk : k ∈ D) {s' : AS} (h1 : s'.1 = s.1) (h2 : ∀ j, j ≠ k → s'.2.1 j = s.2.1 j) (h3 : ∀ i j, j ≠ k → s'.2.2 i j = s.2.2 i j) : CR K b (hset h (ta k) (jO 7 (thO s' k))) c y s' C P w bo ta D tz := by
  obtain ⟨ea, ka, n, mc, S, e⟩ := S
  obtain ⟨c1, c2, c3, c4, c5, c6, c7, c8, c9⟩ := S
  have ck := c4 k hk
  have g : Fr (fun x => x = b + 5) h (hset h (ta k) (jO 7 (thO s' k))) := Fr.set ck rfl
  refine ⟨ea, ka, n, mc, ⟨c1.fr g (by omega), fun j hj => (c2 j hj).fr g (by omega), fun j hj => ?_, fun j hj => ?_, c5, fun i j hi hj => c6 i j hi (by rw [← h1]; exact hj), c7.fr g (by omega) (by omega), c8, c9⟩, e⟩
  · rw [h1]
    exact (c3 j hj).fr g (by have := hj.2; omega) (by omega)
  · by_cases e : j = k
    · subst e; exact ck.same _
    · have e2 : thO s' j = thO s j := by unfold thO; rw [h2 j e, h3 0 j e, h3 1 j e, h3 2 j e, h3 3 j e, h3 4 j e]
      rw [e2]
      exact (c4 j hj).ne _ (fun z => e (c5 k hk j hj z).symm)
/-- a key has another thing -/
theorem CR.nt {k a : Nat} (S : CR K b h c y s C P w bo ta D tz) (hq : ∀ i, aq i → k ∉ s.1 i) {s' : AS} (h1 : s'.1 = s.1) (h2 : ∀ j, j ≠ k → s'.2.1 j = s.2.1 j) (h3 : ∀ i j, j ≠ k → s'.2.2 i j = s.2.2 i j) (ha : hc h (b + 5) a (jO 7 (thO s' k))) (hn : ∀ j ∈ D, ta j ≠ a) : CR K b h c y s' C P w bo (va_up ta k a) (k :: D) tz := by
  obtain ⟨ea, ka, n, mc, S, e⟩ := S
  obtain ⟨c1, c2, c3, c4, c5, c6, c7, c8, c9⟩ := S
  refine ⟨ea, ka, n, mc, ⟨c1, c2, fun j hj => ?_, fun j hj => ?_, fun i hi j hj z => ?_, fun i j hi hj => List.mem_cons_of_mem _ (c6 i j hi (by rw [← h1]; exact hj)), c7, c8, c9⟩, e⟩
  · rw [h1]
    refine (c3 j hj).congr (fun x hx => ⟨rfl, va_up_ne _ _ (fun z => hq j hj (z ▸ hx))⟩)
  · by_cases e : j = k
    · subst e; rw [va_up_self]; exact ha
    · have e2 : thO s' j = thO s j := by unfold thO; rw [h2 j e, h3 0 j e, h3 1 j e, h3 2 j e, h3 3 j e, h3 4 j e]
      rw [e2, va_up_ne _ _ e]
      exact c4 j ((List.mem_cons.mp hj).resolve_left e)
  · by_cases e1 : i = k <;> by_cases e2 : j = k
    · rw [e1, e2]
    · rw [e1, va_up_self, va_up_ne _ _ e2] at z
      exact absurd z.symm (hn j ((List.mem_cons.mp hj).resolve_left e2))
    · rw [e2, va_up_self, va_up_ne _ _ e1] at z
      exact absurd z (hn i ((List.mem_cons.mp hi).resolve_left e1))
    · rw [va_up_ne _ _ e1, va_up_ne _ _ e2] at z
      exact c5 i ((List.mem_cons.mp hi).resolve_left e1) j ((List.mem_cons.mp hj).resolve_left e2) z
/-- the deque has changed -/
theorem CR.dk (S : CR K b h c y s C P w bo ta D tz) (g : Fr (fun x => x = b + 7) h h') {P' : List (Nat × Nat)} (L : DQ K (b + 7) h' y.2.2 P') : CR K b h' c y s C P' w bo ta D tz := by
  obtain ⟨ea, ka, n, mc, S, e⟩ := S
  obtain ⟨c1, c2, c3, c4, c5, c6, c7, c8, c9⟩ := S
  exact ⟨ea, ka, n, mc, ⟨c1.fr g (by omega), fun j hj => (c2 j hj).fr g (by omega), fun j hj => (c3 j hj).fr g (by have := hj.2; omega) (by omega), fun k hk => (c4 k hk).fr g (by omega), c5, c6, L, c8, c9⟩, e⟩
end
theorem CT.q {b i : Nat} (hi : aq i) : CT b (b + i) := Or.inl ⟨by have := hi.1; omega, by have := hi.2; omega⟩
theorem CT.t5 (b : Nat) : CT b (b + 5) := Or.inl ⟨by omega, by omega⟩
theorem CT.t6 (b : Nat) : CT b (b + 6) := Or.inl ⟨by omega, by omega⟩
theorem CT.t7 (b : Nat) : CT b (b + 7) := Or.inl ⟨by omega, by omega⟩
theorem CT.n1 {b : Nat} (h : b = 16 ∨ b = 32) : ¬ CT b 1 := by unfold CT; omega
