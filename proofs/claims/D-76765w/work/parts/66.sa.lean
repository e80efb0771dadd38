/-! A SKETCH HOLDS AN ABSTRACT CACHE -/
def SQ (s : AS) (wh : Nat → Nat) (nx ah fi la : Nat → Option Nat) (to : Nat → Int32) : Prop :=
  (∀ i, aq i → Dl ah nx none (s.1 i) ∧ fi i = (s.1 i).head? ∧ la i = lst none (s.1 i) ∧ to i = wS s i) ∧ (∀ k, k < 400 → wh k ≤ 4 ∧ ∀ i, aq i → (wh k = i ↔ k ∈ s.1 i))
def SD (D : Nat → Prop) (s : AS) (wt ht ch : Nat → Int32) (pn : Nat → Nat) : Prop := ∀ k, D k → wt k = nI (s.2.2 0 k) ∧ ht k = nI (s.2.2 2 k) ∧ ch k = nI (s.2.2 3 k) ∧ pn k = s.2.2 4 k
def ST (t : Nat) (h : JIH) (B : Nat) : Prop := B + 11 ≤ hnew h ∧ h.1 ≤ B ∧ ∀ j, j < 11 → htag h (B + j) = t
theorem SQ.wh {s : AS} {wh : Nat → Nat} {nx ah fi la : Nat → Option Nat} {to : Nat → Int32} (S : SQ s wh nx ah fi la to) {k : Nat} (hk : k < 400) : wh k = awhere s k := by
  obtain ⟨h4, h⟩ := S.2 k hk
  unfold awhere
  by_cases e1 : k ∈ s.1 1
  · rw [if_pos e1]; exact (h 1 aq1).mpr e1
  · rw [if_neg e1]
    have n1 : ¬ wh k = 1 := fun z => e1 ((h 1 aq1).mp z)
    by_cases e2 : k ∈ s.1 2
    · rw [if_pos e2]; exact (h 2 aq2).mpr e2
    · rw [if_neg e2]
      have n2 : ¬ wh k = 2 := fun z => e2 ((h 2 aq2).mp z)
      by_cases e3 : k ∈ s.1 3
      · rw [if_pos e3]; exact (h 3 aq3).mpr e3
      · rw [if_neg e3]
        have n3 : ¬ wh k = 3 := fun z => e3 ((h 3 aq3).mp z)
        by_cases e4 : k ∈ s.1 4
        · rw [if_pos e4]; exact (h 4 aq4).mpr e4
        · rw [if_neg e4]
          have n4 : ¬ wh k = 4 := fun z => e4 ((h 4 aq4).mp z)
          omega
theorem skNx_at (nx ah : Nat → Option Nat) (k x : Nat) : skNx nx ah k x = if ah k = some x then nx k else nx x := by
  unfold skNx
  cases ah k with
  | none => rw [if_neg (fun z => by cases z)]
  | some b =>
    show va_up nx b (nx k) x = _
    rw [va_up_at]
    by_cases e : x = b
    · rw [if_pos e, if_pos (by rw [e])]
    · rw [if_neg e, if_neg (fun z => e (Option.some.inj z).symm)]
theorem skAh_at (nx ah : Nat → Option Nat) (k x : Nat) : skAh nx ah k x = if nx k = some x then ah k else ah x := by
  unfold skAh
  cases nx k with
  | none => rw [if_neg (fun z => by cases z)]
  | some b =>
    show va_up ah b (ah k) x = _
    rw [va_up_at]
    by_cases e : x = b
    · rw [if_pos e, if_pos (by rw [e])]
    · rw [if_neg e, if_neg (fun z => e (Option.some.inj z).symm)]
theorem skFi_at (nx ah fi : Nat → Option Nat) (k q x : Nat) : skFi nx ah fi k q x = if x = q then oel (ah k) (nx k) (fun _ => fi q) else fi x := by
  unfold skFi
  cases ah k with
  | none => show va_up fi q (nx k) x = _; rw [va_up_at]; rfl
  | some b =>
    show fi x = if x = q then fi q else fi x
    split
    · rename_i e; rw [e]
    · rfl
theorem skLa_at (nx ah la : Nat → Option Nat) (k q x : Nat) : skLa nx ah la k q x = if x = q then oel (nx k) (ah k) (fun _ => la q) else la x := by
  unfold skLa
  cases nx k with
  | none => show va_up la q (ah k) x = _; rw [va_up_at]; rfl
  | some b =>
    show la x = if x = q then la q else la x
    split
    · rename_i e; rw [e]
    · rfl
theorem head_mem {l : List Nat} {x : Nat} (h : l.head? = some x) : x ∈ l := by
  cases l with
  | nil => cases h
  | cons a r => cases h; exact List.mem_cons_self
theorem skB_ah {nx ah : Nat → Option Nat} {k : Nat} (hk : k < 400) (h : skB ah 400) : skB (skAh nx ah k) 400 := by
  intro i hi c hc
  rw [skAh_at] at hc
  split at hc
  · exact h k hk c hc
  · exact h i hi c hc
theorem SQ.out {s : AS} {wh : Nat → Nat} {nx ah fi la : Nat → Option Nat} {to : Nat → Int32} (S : SQ s wh nx ah fi la to) (A : AW s) {i k : Nat} (hi : aq i) (hk : k ∈ s.1 i) {w : Int32} (hw : w = nI (s.2.2 0 k)) :
    SQ (aout s i k) (va_up wh k 0) (skNx nx ah k) (skAh (skNx nx ah k) ah k) (skFi nx ah fi k i) (skLa (skNx nx ah k) ah la k i) (upd to i (to i - w)) := by
  obtain ⟨S1, S2⟩ := S
  obtain ⟨l1, l2, el⟩ := List.append_of_mem hk
  have hnd := A.2.1 i hi
  have hee : (s.1 i).erase k = l1 ++ l2 := by
    rw [el]
    rw [el] at hnd
    exact erase_split hnd
  obtain ⟨d, d1, d2, d3⟩ := S1 i hi
  rw [el] at d d1 d2 hnd
  have bk := Dl.bf d
  have ak := Dl.af d
  have hnk : ¬ ah k = some k := fun z => by
    rw [bk] at z
    have := lst_in z
    have q := (List.nodup_append.mp hnd).2.2 k this k List.mem_cons_self
    exact q rfl
  have nk : skNx nx ah k k = nx k := by rw [skNx_at, if_neg hnk]
  have bm : ∀ x, ah k = some x → x ∈ s.1 i := fun x hx => by rw [el]; rw [bk] at hx; exact List.mem_append_left _ (lst_in hx)
  have am : ∀ x, nx k = some x → x ∈ s.1 i := fun x hx => by rw [el]; rw [ak] at hx; exact List.mem_append_right _ (List.mem_cons_of_mem _ (head_mem hx))
  refine ⟨fun j hj => ?_, fun x hx => ?_⟩
  · by_cases e : j = i
    · subst e
      have e1 : (aout s j k).1 j = l1 ++ l2 := by unfold aout; rw [upQ_1, if_pos rfl, hee]
      rw [e1]
      refine ⟨Dl.rem (k := k) (fun x hx => by rw [skAh_at, nk]) (fun x hx => by rw [skNx_at]) d hnd (fun b hb => by cases hb), ?_, ?_, ?_⟩
      · rw [skFi_at, if_pos rfl, d1]
        exact Dl.head d
      · rw [skLa_at, if_pos rfl, nk, d2]
        exact Dl.last d
      · rw [upd_at, if_pos rfl, d3, hw, ← wS_out hk, va_up_self]
        exact Int32.sub_eq_add_neg _ _
    · have e1 : (aout s i k).1 j = s.1 j := by unfold aout; rw [upQ_1, if_neg e]
      rw [e1]
      obtain ⟨c, c1, c2, c3⟩ := S1 j hj
      have hx : ∀ x ∈ s.1 j, x ∉ s.1 i := fun x h1 h2 => e (A.1 j i x hj hi h1 h2)
      refine ⟨c.congr (fun x h => ?_), ?_, ?_, ?_⟩
      · rw [skAh_at, nk, skNx_at, if_neg (fun z => hx x h (am x z)), if_neg (fun z => hx x h (bm x z))]
        exact ⟨rfl, rfl⟩
      · rw [skFi_at, if_neg e]; exact c1
      · rw [skLa_at, if_neg e]; exact c2
      · rw [upd_at, if_neg e, ← wS_out hk, va_up_ne _ _ e]; exact c3
  · by_cases e : x = k
    · subst e
      rw [va_up_self]
      refine ⟨Nat.zero_le _, fun j hj => ⟨fun z => absurd hj.1 (by omega), fun z => absurd z (out_not A hi hk hj)⟩⟩
    · rw [va_up_ne _ _ e]
      refine ⟨(S2 x hx).1, fun j hj => ((S2 x hx).2 j hj).trans ?_⟩
      unfold aout
      rw [upQ_1]
      split
      · rename_i e2
        rw [e2]
        exact ⟨fun z => (mem_erase_iff (A.2.1 i hi)).mpr ⟨z, e⟩, fun z => ((mem_erase_iff (A.2.1 i hi)).mp z).1⟩
      · exact Iff.rfl
def skAx (nx la : Nat → Option Nat) (k q : Nat) : Nat → Option Nat := match la q with
  | none => va_up nx k none
  | some b => va_up (va_up nx k none) b (some k)
def skAf (fi la : Nat → Option Nat) (k q : Nat) : Nat → Option Nat := match la q with
  | none => va_up fi q (some k)
  | some _ => fi
theorem skAx_at (nx la : Nat → Option Nat) (k q x : Nat) : skAx nx la k q x = if la q = some x then some k else if x = k then none else nx x := by
  unfold skAx
  cases la q with
  | none => rw [if_neg (fun z => by cases z)]; exact va_up_at _ _ _ _
  | some b =>
    show va_up (va_up nx k none) b (some k) x = _
    rw [va_up_at, va_up_at]
    by_cases e : x = b
    · rw [if_pos e, if_pos (by rw [e])]
    · rw [if_neg e, if_neg (fun z => e (Option.some.inj z).symm)]
theorem skAf_at (fi la : Nat → Option Nat) (k q x : Nat) : skAf fi la k q x = if x = q then oel (la q) (some k) (fun _ => fi q) else fi x := by
  unfold skAf
  cases la q with
  | none => show va_up fi q (some k) x = _; rw [va_up_at]; rfl
  | some b =>
    show fi x = if x = q then fi q else fi x
    split
    · rename_i e; rw [e]
    · rfl
theorem lst_some {l : List Nat} (h : l ≠ []) : ∃ b, lst none l = some b := by
  cases e : lst none l with
  | none => exact absurd (lst_none e) h
  | some b => exact ⟨b, rfl⟩
theorem SQ.ins {s : AS} {wh : Nat → Nat} {nx ah fi la : Nat → Option Nat} {to : Nat → Int32} (S : SQ s wh nx ah fi la to) (A : AW s) {i k : Nat} (hi : aq i) (hkq : ∀ j, aq j → k ∉ s.1 j) {w : Int32} (hw : w = nI (s.2.2 0 k)) :
    SQ (ain s i k) (va_up wh k i) (skAx nx la k i) (va_up ah k (la i)) (skAf fi la k i) (va_up la i (some k)) (upd to i (to i + w)) := by
  obtain ⟨S1, S2⟩ := S
  have hl := (S1 i hi).2.2.1
  have lm : ∀ x, la i = some x → x ∈ s.1 i := fun x hx => lst_in (hl ▸ hx)
  refine ⟨fun j hj => ?_, fun x hx => ?_⟩
  · obtain ⟨d, d1, d2, d3⟩ := S1 j hj
    by_cases e : j = i
    · subst e
      have e1 : (ain s j k).1 j = s.1 j ++ [k] := by unfold ain; rw [upQ_1, if_pos rfl]
      rw [e1]
      refine ⟨Dl.add d (A.2.1 j hi) (hkq j hi) (by rw [va_up_self]; exact d2) ?_ (fun x hx => va_up_ne _ _ (fun (z : x = k) => hkq j hi (z ▸ hx))) (fun x hx hn => ?_) (fun x hx => ?_), ?_, ?_, ?_⟩
      · rw [skAx_at, if_neg (fun z => hkq j hi (lm k z)), if_pos rfl]
      · rw [skAx_at, if_neg (fun (z : la j = some x) => hn (d2.symm.trans z)), if_neg (fun (z : x = k) => hkq j hi (z ▸ hx))]
      · rw [skAx_at, if_pos (d2.trans hx)]
      · rw [skAf_at, if_pos rfl, d2, d1]
        cases s.1 j with
        | nil => rfl
        | cons a r =>
          obtain ⟨b, hb⟩ := lst_some (l := a :: r) (fun z => by cases z)
          rw [hb]; rfl
      · rw [va_up_self, lst_app]; rfl
      · rw [upd_at, if_pos rfl, d3, hw, ← wS_in, va_up_self]
    · have e1 : (ain s i k).1 j = s.1 j := by unfold ain; rw [upQ_1, if_neg e]
      rw [e1]
      refine ⟨d.congr (fun x h => ?_), ?_, ?_, ?_⟩
      · have hxk : x ≠ k := fun z => hkq j hj (z ▸ h)
        rw [va_up_ne _ _ hxk, skAx_at, if_neg (fun z => e (A.1 j i x hj hi h (lm x z))), if_neg hxk]
        exact ⟨rfl, rfl⟩
      · rw [skAf_at, if_neg e]; exact d1
      · rw [va_up_ne _ _ e]; exact d2
      · rw [upd_at, if_neg e, ← wS_in, va_up_ne _ _ e]; exact d3
  · by_cases e : x = k
    · subst e
      rw [va_up_self]
      refine ⟨hi.2, fun j hj => ?_⟩
      unfold ain
      rw [upQ_1]
      split
      · rename_i e2
        exact ⟨fun _ => List.mem_append_right _ List.mem_cons_self, fun _ => e2.symm⟩
      · rename_i e2
        exact ⟨fun z => absurd z.symm e2, fun z => absurd z (hkq j hj)⟩
    · rw [va_up_ne _ _ e]
      refine ⟨(S2 x hx).1, fun j hj => ((S2 x hx).2 j hj).trans ?_⟩
      unfold ain
      rw [upQ_1]
      split
      · rename_i e2
        rw [e2]
        exact ⟨fun z => List.mem_append_left _ z, fun z => (List.mem_append.mp z).resolve_right (fun q => e (List.mem_singleton.mp q))⟩
      · exact Iff.rfl
theorem SQ.att {s s' : AS} {wh : Nat → Nat} {nx ah fi la : Nat → Option Nat} {to : Nat → Int32} (S : SQ s wh nx ah fi la to) (h1 : s'.1 = s.1) (h2 : ∀ i, aq i → wsum s' i = wsum s i) : SQ s' wh nx ah fi la to := by
  refine ⟨fun i hi => ?_, fun k hk => ?_⟩
  · have := S.1 i hi
    rw [h1]
    refine ⟨this.1, this.2.1, this.2.2.1, ?_⟩
    show to i = nI (wsum s' i)
    rw [h2 i hi]
    exact this.2.2.2
  · rw [h1]; exact S.2 k hk
/-- the oldest by the links -/
theorem skOld_old {nx ah : Nat → Option Nat} {pn : Nat → Nat} {a4 : Nat → Nat} : ∀ {l : List Nat} {p : Option Nat}, Dl ah nx p l → (∀ k ∈ l, pn k = a4 k) → skOld nx pn (l.length + 1) l.head? = some (l.find? (fun k => a4 k == 0))
  | [], _, _, _ => rfl
  | k :: r, _, d, h => by
    show (if pn k = 0 then some (some k) else skOld nx pn (r.length + 1) (nx k)) = _
    rw [d.2.1, skOld_old d.2.2 (fun x hx => h x (List.mem_cons_of_mem _ hx)), h k List.mem_cons_self, List.find?_cons]
    by_cases e : a4 k = 0
    · rw [if_pos e, show (a4 k == 0) = true by simpa using e]
    · rw [if_neg e, show (a4 k == 0) = false by simpa using e]
def SB (nx ah fi la : Nat → Option Nat) (pn : Nat → Nat) : Prop := skB nx 400 ∧ skB ah 400 ∧ skB fi 5 ∧ skB la 5 ∧ ∀ k, pn k < 2
theorem SB.out {nx ah fi la : Nat → Option Nat} {pn : Nat → Nat} (h : SB nx ah fi la pn) {k q : Nat} (hk : k < 400) (hq : q < 5) : SB (skNx nx ah k) (skAh (skNx nx ah k) ah k) (skFi nx ah fi k q) (skLa (skNx nx ah k) ah la k q) pn := by
  obtain ⟨h1, h2, h3, h4, h5⟩ := h
  refine ⟨skB_nx hk h1, skB_ah hk h2, fun i hi b hb => ?_, fun i hi b hb => ?_, h5⟩
  · rw [skFi_at] at hb
    split at hb
    · cases e : ah k with
      | none => rw [e] at hb; exact h1 k hk b hb
      | some c => rw [e] at hb; exact h3 q hq b hb
    · exact h3 i hi b hb
  · rw [skLa_at] at hb
    split at hb
    · cases e : skNx nx ah k k with
      | none => rw [e] at hb; exact h2 k hk b hb
      | some c => rw [e] at hb; exact h4 q hq b hb
    · exact h4 i hi b hb
theorem SB.ins {nx ah fi la : Nat → Option Nat} {pn : Nat → Nat} (h : SB nx ah fi la pn) {k q : Nat} (hk : k < 400) (hq : q < 5) : SB (skAx nx la k q) (va_up ah k (la q)) (skAf fi la k q) (va_up la q (some k)) pn := by
  obtain ⟨h1, h2, h3, h4, h5⟩ := h
  refine ⟨fun i hi b hb => ?_, fun i hi b hb => ?_, fun i hi b hb => ?_, fun i hi b hb => ?_, h5⟩
  · rw [skAx_at] at hb
    split at hb
    · cases hb; exact hk
    · split at hb
      · cases hb
      · exact h1 i hi b hb
  · rw [va_up_at] at hb
    split at hb
    · exact h4 q hq b hb
    · exact h2 i hi b hb
  · rw [skAf_at] at hb
    split at hb
    · cases e : la q with
      | none => rw [e] at hb; cases hb; exact hk
      | some c => rw [e] at hb; exact h3 q hq b hb
    · exact h3 i hi b hb
  · rw [va_up_at] at hb
    split at hb
    · cases hb; exact hk
    · exact h4 i hi b hb
def SA (K : JK) (t : Nat) (h : JIH) (B : Nat) (s : AS) (C : Nat → Nat) (e : Nat) (D : Nat → Prop) : Prop :=
  ∃ (wh : Nat → Nat) (nx ah : Nat → Option Nat) (wt ht ch : Nat → Int32) (pn : Nat → Nat) (fi la : Nat → Option Nat) (to : Nat → Int32), SkR K h B wh nx ah wt ht ch pn fi la to (nI (C 0)) (nI (C 1)) (nI (C 2)) (nI (C 3)) (nI (C 4)) (nI (C 5)) (nI (C 6)) (nI (C 9)) (nI e) ∧ ST t h B ∧ SQ s wh nx ah fi la to ∧ SD D s wt ht ch pn ∧ (∀ i k, aq i → k ∈ s.1 i → D k) ∧ SB nx ah fi la pn ∧ AW s
def SF (t : Nat) (h h' : JIH) : Prop := Fr (fun x => x = t) h h' ∧ hres h' = hres h
theorem SF.rf (t : Nat) (h : JIH) : SF t h h := ⟨Fr.rf _ _, rfl⟩
theorem SF.tr {t : Nat} {a b c : JIH} (f : SF t a b) (g : SF t b c) : SF t a c := ⟨f.1.tr g.1, g.2.trans f.2⟩
theorem SkF.SF {t : Nat} {h h' : JIH} {B : Nat} (f : SkF h h' B) (g : ST t h B) : SF t h h' ∧ ST t h' B := by
  obtain ⟨f1, f2, f3, f4, f5⟩ := f
  obtain ⟨g1, g2, g3⟩ := g
  have hn : hnew h' = hnew h := by unfold hnew; rw [f1, f2]
  refine ⟨⟨⟨f1, by rw [hn]; exact Nat.le_refl _, fun a _ => f4 a, fun a ha hT => f5 a ?_⟩, ?_⟩, ?_, ?_, fun j hj => (f4 _).trans (g3 j hj)⟩
  · by_cases e : B ≤ a
    · by_cases e2 : a < B + 11
      · exfalso
        have := g3 (a - B) (by omega)
        rw [show B + (a - B) = a by omega] at this
        exact hT this
      · exact Or.inr (by omega)
    · exact Or.inl (by omega)
  · unfold hres; rw [f2, f3]
  · rw [hn]; exact g1
  · rw [f1]; exact g2
theorem SD.up {D : Nat → Prop} {s s' : AS} {wt ht ch : Nat → Int32} {pn : Nat → Nat} (h : SD D s wt ht ch pn) (e : s'.2.2 = s.2.2) : SD D s' wt ht ch pn := fun k hk => by rw [e]; exact h k hk
theorem SA.aw {K : JK} {t : Nat} {h : JIH} {B : Nat} {s : AS} {C : Nat → Nat} {e : Nat} {D : Nat → Prop} (S : SA K t h B s C e D) : AW s := by
  obtain ⟨wh, nx, ah, wt, ht, ch, pn, fi, la, to, T, g1, g2, g3, g4, g5, A⟩ := S
  exact A
theorem SA.fr {K : JK} {t : Nat} {h h' : JIH} {B : Nat} {s : AS} {C : Nat → Nat} {e : Nat} {D : Nat → Prop} {T : Nat → Prop} (S : SA K t h B s C e D) (f : Fr T h h') (ht : ¬ T t) : SA K t h' B s C e D := by
  obtain ⟨wh, nx, ah, wt, ht', ch, pn, fi, la, to, R, g1, g2, g3, g4, g5, A⟩ := S
  have c : ∀ j x, j < 11 → hget h (B + j) = some x → hget h' (B + j) = some x := fun j x hj hx => (hc.fr ⟨hx, g1.2.2 j hj⟩ f ht).1
  obtain ⟨r0, r1, r2, r3, r4, r5, r6, r7, r8, r9, r10⟩ := R
  refine ⟨wh, nx, ah, wt, ht', ch, pn, fi, la, to, ⟨c 0 _ (by decide) r0, c 1 _ (by decide) r1, c 2 _ (by decide) r2, c 3 _ (by decide) r3, c 4 _ (by decide) r4, c 5 _ (by decide) r5, c 6 _ (by decide) r6, c 7 _ (by decide) r7, c 8 _ (by decide) r8, c 9 _ (by decide) r9, c 10 _ (by decide) r10⟩, ⟨Nat.le_trans g1.1 f.2.1, by rw [f.1]; exact g1.2.1, fun j hj => (f.2.2.1 _ (by have := g1.1; omega)).trans (g1.2.2 j hj)⟩, g2, g3, g4, g5, A⟩
