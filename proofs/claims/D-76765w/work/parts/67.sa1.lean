/-! Sketch over the abstract cache -/
theorem sa_oldest {K : JK} {l : Launch} {hE : JIH} {t B : Nat} {s : AS} {C : Nat → Nat} {e : Nat} {D : Nat → Prop}  (F : JF K) (S : SA K t hE B s C e D) {i : Nat} (hi : aq i) :
    Ct K l yX3_oldest wX3_oldest 1 [.ref B, .int (nI i)] hE (jRi (fun r h' => (aold s i = none ∧ r = bI none ∧ hE = h') ∨ (∃ k, aold s i = some k ∧ r = nI k ∧ SA K t h' B (aout s i k) C e D ∧ SF t hE h'))) jNo := by
  obtain ⟨wh, nx, ah, wt, ht, ch, pn, fi, la, to, T, g1, g2, g3, g4, g5, A⟩ := S
  have hi4 := hi.2
  have ho : skOld nx pn ((s.1 i).length + 1) (fi i) = some (aold s i) := by
    obtain ⟨d, d1, -⟩ := g2.1 i hi
    rw [d1]
    exact skOld_old d (fun k hk => (g3 k (g4 i k hi hk)).2.2.2)
  cases e0 : aold s i with
  | none =>
    rw [e0] at ho
    refine (sk_oldest0 F T hi4 g5.1 g5.2.2.1 g5.2.2.2.2 ho).weaken (fun r h' z => ?_) (fun _ _ _ z => z)
    obtain ⟨r, rfl, z⟩ := z
    exact ⟨r, rfl, Or.inl ⟨rfl, z⟩⟩
  | some k =>
    rw [e0] at ho
    have hk := (aold_some e0).1
    have k4 := (A.2.2 i k hi hk).1
    have hw : wh k = i := ((g2.2 k k4).2 i hi).mpr hk
    refine (sk_oldest F T hi4 g5.1 g5.2.1 g5.2.2.1 g5.2.2.2.2 ho (by omega) (by have := hi.1; omega)).weaken (fun r h' z => ?_) (fun _ _ _ z => z)
    obtain ⟨r, rfl, e1, T', f⟩ := z
    rw [hw] at T'
    have f' := f.SF g1
    exact ⟨r, rfl, Or.inr ⟨k, rfl, e1, ⟨_, _, _, _, _, _, _, _, _, _, T', f'.2, g2.out A hi hk (g3 k (g4 i k hi hk)).1, g3.up rfl, fun j x hj hx => g4 j x hj (by
      unfold aout at hx
      rw [upQ_1] at hx
      split at hx
      · rename_i ej; rw [ej]; exact List.mem_of_mem_erase hx
      · exact hx), g5.out k4 (by omega), A.out hi⟩, f'.1⟩⟩
theorem sa_adds {K : JK} {l : Launch} {hE : JIH} {t B : Nat} {s : AS} {C : Nat → Nat} {e : Nat} {D : Nat → Prop}  (F : JF K) (S : SA K t hE B s C e D) {i k : Nat} (hi : aq i) (hkD : D k) (hkq : ∀ j, aq j → k ∉ s.1 j) (ho : aok s i k) :
    Ct K l yX3_adds wX3_adds 0 [.ref B, .int (nI k), .int (nI i)] hE (jRv (fun h' => SA K t h' B (ain s i k) C e D ∧ SF t hE h')) jNo := by
  obtain ⟨wh, nx, ah, wt, ht, ch, pn, fi, la, to, T, g1, g2, g3, g4, g5, A⟩ := S
  have hi4 := hi.2
  refine (sk_adds F T ho.1 hi4 g5.2.2.2.1).weaken (fun r h' z => ?_) (fun _ _ _ z => z)
  obtain ⟨er, T', f⟩ := z
  have f' := f.SF g1
  refine ⟨er, ⟨_, _, _, _, _, _, _, _, _, _, T', f'.2, g2.ins A hi hkq (g3 k hkD).1, g3.up rfl, fun j x hj hx => ?_, g5.ins ho.1 (by omega), A.ins hi hkq ho⟩, f'.1⟩
  unfold ain at hx
  rw [upQ_1] at hx
  split at hx
  · rename_i ej
    rcases List.mem_append.mp hx with hx | hx
    · exact g4 i x hi hx
    · rw [List.mem_singleton.mp hx]; exact hkD
  · exact g4 j x hj hx
theorem sa_loses {K : JK} {l : Launch} {hE : JIH} {t B : Nat} {s : AS} {C : Nat → Nat} {e : Nat} {D : Nat → Prop}  (F : JF K) (S : SA K t hE B s C e D) {k : Nat} (hk : k < 400) :
    Ct K l yX3_loses wX3_loses 0 [.ref B, .int (nI k)] hE (jRi (fun r h' => r = nI (awhere s k) ∧ SA K t h' B (adrop s k) C e D ∧ SF t hE h')) jNo := by
  have S0 := S
  obtain ⟨wh, nx, ah, wt, ht, ch, pn, fi, la, to, T, g1, g2, g3, g4, g5, A⟩ := S
  have hw := g2.wh hk
  by_cases e0 : awhere s k = 0
  · refine (sk_loses0 F T hk (hw.trans e0)).weaken (fun r h' z => ?_) (fun _ _ _ z => z)
    obtain ⟨r, rfl, e1, rfl⟩ := z
    refine ⟨r, rfl, e1.trans (by rw [e0]), ?_, SF.rf _ _⟩
    unfold adrop
    rw [if_pos e0]
    exact S0
  · have h4 := (g2.2 k hk).1
    have hi : aq (wh k) := ⟨by omega, h4⟩
    have hm : k ∈ s.1 (wh k) := ((g2.2 k hk).2 _ hi).mp rfl
    refine (sk_loses F T hk h4 g5.1 g5.2.1 (by omega)).weaken (fun r h' z => ?_) (fun _ _ _ z => z)
    obtain ⟨r, rfl, e1, T', f⟩ := z
    have f' := f.SF g1
    refine ⟨r, rfl, e1.trans (by rw [hw]), ?_, f'.1⟩
    unfold adrop
    rw [if_neg e0, ← hw]
    exact ⟨_, _, _, _, _, _, _, _, _, _, T', f'.2, g2.out A hi hm (g3 k (g4 _ k hi hm)).1, g3.up rfl, fun j x hj hx => g4 j x hj (by
      unfold aout at hx
      rw [upQ_1] at hx
      split at hx
      · rename_i ej; rw [ej]; exact List.mem_of_mem_erase hx
      · exact hx), g5.out hk (by omega), A.out hi⟩
/-- attributes of a key that is nowhere are written -/
theorem SQ.any {s : AS} {wh : Nat → Nat} {nx ah fi la : Nat → Option Nat} {to : Nat → Int32} (S : SQ s wh nx ah fi la to) {k : Nat} (hkq : ∀ j, aq j → k ∉ s.1 j) {v : Nat → Int32} {V : Nat → Nat → Nat} (g : ∀ m, m ≠ k → V 0 m = s.2.2 0 m) : SQ (s.1, v, V) wh nx ah fi la to := by
  refine S.att rfl (fun i hi => ?_)
  unfold wsum
  have : (s.1 i).map (V 0) = (s.1 i).map (s.2.2 0) := List.map_congr_left (fun x hx => g x (fun z => hkq i hi (z ▸ hx)))
  show ((s.1 i).map (V 0)).sum = _
  rw [this]
theorem sa_comes {K : JK} {l : Launch} {hE : JIH} {t B : Nat} {s : AS} {C : Nat → Nat} {e : Nat} {D : Nat → Prop}  (F : JF K) (S : SA K t hE B s C e D) {i k x cn co : Nat} {v : Int32} (hi : aq i) (hk : k < 400) (hkq : ∀ j, aq j → k ∉ s.1 j) (hx : 1 ≤ x ∧ x ≤ 9) (hcn : cn ≤ 9) (hco : co ≤ 99) :
    Ct K l yX3_comes wX3_comes 1 [.ref B, .int (nI k), .int (nI x), .int (nI cn), .int (nI i)] hE (jRv (fun h' => SA K t h' B (ain (anew s k v x co cn) i k) C e (fun j => j = k ∨ D j) ∧ SF t hE h')) jNo := by
  obtain ⟨wh, nx, ah, wt, ht, ch, pn, fi, la, to, T, g1, g2, g3, g4, g5, A⟩ := S
  have hi4 := hi.2
  refine (sk_comes F T hk hi4 g5.2.2.2.1 (nI x) (nI cn)).weaken (fun r h' z => ?_) (fun _ _ _ z => z)
  obtain ⟨er, T', f⟩ := z
  have f' := f.SF g1
  have q2 : SQ (anew s k v x co cn) wh nx ah fi la to := g2.any hkq (fun m hm => va_up_ne _ _ hm)
  have A2 : AW (anew s k v x co cn) := A.att (k := k) hkq (fun j m hm => va_up_ne _ _ hm)
  have ek : ∀ j, (anew s k v x co cn).2.2 j k = if j = 0 then x else if j = 1 then co else if j = 3 then cn else 0 := fun j => va_up_self _ _ _
  have en : ∀ j m, m ≠ k → (anew s k v x co cn).2.2 j m = s.2.2 j m := fun j m hm => va_up_ne _ _ hm
  refine ⟨er, ⟨_, _, _, _, _, _, _, _, _, _, T', f'.2, q2.ins A2 hi hkq (w := upd wt k (nI x) k) ?_, fun j hj => ?_, fun j m hj hm => ?_, (show SB nx ah fi la (va_up pn k 0) from ⟨g5.1, g5.2.1, g5.2.2.1, g5.2.2.2.1, fun m => ?_⟩).ins hk (by omega), A2.ins hi hkq ?_⟩, f'.1⟩
  · rw [upd_at, if_pos rfl, ek]; rfl
  · show upd wt k (nI x) j = nI ((anew s k v x co cn).2.2 0 j) ∧ upd ht k (nI 0) j = nI ((anew s k v x co cn).2.2 2 j) ∧ upd ch k (nI cn) j = nI ((anew s k v x co cn).2.2 3 j) ∧ va_up pn k 0 j = (anew s k v x co cn).2.2 4 j
    by_cases ej : j = k
    · subst ej
      refine ⟨?_, ?_, ?_, ?_⟩
      · rw [upd_at, if_pos rfl, ek]; rfl
      · rw [upd_at, if_pos rfl, ek]; rfl
      · rw [upd_at, if_pos rfl, ek]; rfl
      · rw [va_up_self, ek]; rfl
    · rw [en _ _ ej, en _ _ ej, en _ _ ej, en _ _ ej, upd_at, upd_at, upd_at, if_neg ej, if_neg ej, if_neg ej, va_up_ne _ _ ej]
      exact g3 j (hj.resolve_left ej)
  · unfold ain at hm
    rw [upQ_1] at hm
    split at hm
    · rcases List.mem_append.mp hm with hm | hm
      · exact Or.inr (g4 i m hi hm)
      · exact Or.inl (List.mem_singleton.mp hm)
    · exact Or.inr (g4 j m hj hm)
  · rw [va_up_at]
    split
    · decide
    · exact g5.2.2.2.2 m
  · rw [ek, ek, ek, ek, ek]
    exact ⟨hk, hx, hco, Nat.zero_le _, hcn, Nat.zero_le _, fun _ => rfl⟩
theorem aghost_new (s : AS) (k : Nat) : aghost s k = anew s k 0 (s.2.2 0 k) 0 0 := by
  unfold aghost anew
  refine congrArg (Prod.mk _) (congrArg (Prod.mk _) (funext fun j => ?_))
  by_cases e : j = 0
  · subst e
    rw [if_pos rfl, if_pos rfl, va_upid]
  · rw [if_neg e, if_neg e]
    congr 1
    by_cases e1 : j = 1
    · rw [if_pos e1]
    · rw [if_neg e1]
      split <;> rfl
theorem sa_goes {K : JK} {l : Launch} {hE : JIH} {t B : Nat} {s : AS} {C : Nat → Nat} {e : Nat} {D : Nat → Prop}  (F : JF K) (S : SA K t hE B s C e D) {i k : Nat} (hi : aq i) (hk : k < 400) (hkD : D k) (hkq : ∀ j, aq j → k ∉ s.1 j) (hw : 1 ≤ s.2.2 0 k ∧ s.2.2 0 k ≤ 9) :
    Ct K l yX3_goes wX3_goes 2 [.ref B, .int (nI k), .int (nI i)] hE (jRi (fun r h' => r = nI 1 ∧ SA K t h' B (ain (aghost s k) i k) (va_up C 9 (C 9 + 1)) k (fun j => j = k ∨ D j) ∧ SF t hE h')) jNo := by
  have S0 := S
  obtain ⟨wh, nx, ah, wt, ht, ch, pn, fi, la, to, T, g1, g2, g3, g4, g5, A⟩ := S
  refine st_X3_goes (ls := [some (.ref B), some (.int (nI k)), some (.int (nI i))]) F rfl (body := fun M X => ?_)
  have S := T.S
  have hwt := (g3 k hkD).1
  refine J.aload0 X dX3_goes_0 ?_
  refine J.iload1 X dX3_goes_1 ?_
  refine J.aload0 X dX3_goes_2 ?_
  refine J.getf X dX3_goes_3 fl_X3_21_X3 (S.o) rfl ?_
  refine J.iload1 X dX3_goes_6 ?_
  refine J.iald X dX3_goes_7 (S.r_wt) (rfl) (by omega) ?_
  refine J.topi (y := nI ((s.2.2 0 k))) (hwt) ?_
  refine J.iconst (v := nI 0) X dX3_goes_8 (by decide) ?_
  refine J.iload2 X dX3_goes_9 ?_
  refine J.callVv X dX3_goes_10 lk_X3_101_X3 ce_X3_comes (sa_comes (co := 0) (v := 0) F S0 hi hk hkq hw (Nat.zero_le 9) (Nat.zero_le 99)) (by decide) rfl (S.o) rfl (fun h1 e1 _ => ?_)
  obtain ⟨S1, f1⟩ := e1
  rw [← aghost_new] at S1
  clear S T S0 g1 g2 g3 g4 g5
  obtain ⟨wh, nx, ah, wt, ht, ch, pn, fi, la, to, T, g1, g2, g3, g4, g5, A⟩ := S1
  have S := T.S
  refine J.aload0 X dX3_goes_13 ?_
  refine J.iload1 X dX3_goes_14 ?_
  refine J.sk_s8 X dX3_goes_15 (pl_X3_154_X3 _) S (rfl) (rfl) (fun h S => ?_)
  refine J.aload0 X dX3_goes_18 ?_
  refine J.dup X dX3_goes_19 ?_
  refine J.getf X dX3_goes_20 fl_X3_137_X3 (S.o) rfl ?_
  refine J.iconst (v := nI 1) X dX3_goes_23 (by decide) ?_
  refine J.iadd X dX3_goes_24 ?_
  refine J.sk_s7 X dX3_goes_25 (pl_X3_137_X3 _) S (rfl) (rfl) (fun h S => ?_)
  refine J.iconst (v := nI 1) X dX3_goes_28 (by decide) ?_
  refine J.zreturn X dX3_goes_29 (rfl) (jRi.of ?_)
  rw [nI_add] at S
  exact ⟨rfl, ⟨_, _, _, _, _, _, _, _, _, _, S.1, (S.2.SF g1).2, g2, g3, g4, g5, A⟩, f1.tr (S.2.SF g1).1⟩
