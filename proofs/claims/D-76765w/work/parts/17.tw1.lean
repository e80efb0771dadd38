/-! the model: small methods -/
theorem tw_in {K : JK} {l : Launch} {h : JIH} (F : JF K) (v a b : Int32) : Ct K l yX5_in wX5_in 0 [.int v, .int a, .int b] h (jRi (fun r h' => r = jB (a ≤ v ∧ v ≤ b) ∧ h = h')) jNo := by
  refine st_X5_in (ls := [some (.int v), some (.int a), some (.int b)]) F rfl (body := fun M X => ?_)
  refine J.iload0 X dX5_in_0 ?_
  refine J.iload1 X dX5_in_1 ?_
  refine J.icmp_lt (tgt := 14) X dX5_in_2 (by decide) (fun c1 => ?_) (fun c1 => ?_)
  · skip
    refine J.iconst (v := nI 0) X dX5_in_14 (by decide) ?_
    refine J.zreturn X dX5_in_15 (rfl) (jRi.of ?_)
    exact ⟨jB_0 (fun q => absurd q.1 (Int32.not_le.mpr c1)), rfl⟩
  · skip
    refine J.iload0 X dX5_in_5 ?_
    refine J.iload2 X dX5_in_6 ?_
    refine J.icmp_gt (tgt := 14) X dX5_in_7 (by decide) (fun c2 => ?_) (fun c2 => ?_)
    · skip
      refine J.iconst (v := nI 0) X dX5_in_14 (by decide) ?_
      refine J.zreturn X dX5_in_15 (rfl) (jRi.of ?_)
      exact ⟨jB_0 (fun q => absurd q.2 (Int32.not_le.mpr c2)), rfl⟩
    · skip
      refine J.iconst (v := nI 1) X dX5_in_10 (by decide) ?_
      refine J.goto (tgt := 15) X dX5_in_11 (by decide) ?_
      refine J.zreturn X dX5_in_15 (rfl) (jRi.of ?_)
      exact ⟨jB_1 ⟨Int32.not_lt.mp c1, Int32.not_lt.mp c2⟩, rfl⟩
abbrev tkey (s n : Int32) : Prop := ((0 : Int32) ≤ s ∧ s ≤ 3) ∧ ((0 : Int32) ≤ n ∧ n ≤ 99)
theorem tw_isKey {K : JK} {l : Launch} {h : JIH} (F : JF K) (s n : Int32) : Ct K l yX5_isKey wX5_isKey 1 [.int s, .int n] h (jRi (fun r h' => r = jB (tkey s n) ∧ h = h')) jNo := by
  refine st_X5_isKey (ls := [some (.int s), some (.int n)]) F rfl (body := fun M X => ?_)
  refine J.iload0 X dX5_isKey_0 ?_
  refine J.iconst (v := nI 0) X dX5_isKey_1 (by decide) ?_
  refine J.iconst (v := nI 3) X dX5_isKey_2 (by decide) ?_
  refine J.callSi X dX5_isKey_3 lk_X5_54 ce_X5_in (tw_in F s 0 3) (by decide) rfl (fun r h' e _ => ?_)
  obtain ⟨rfl, rfl⟩ := e
  refine J.if_eqB (tgt := 23) X dX5_isKey_6 (by decide) (fun c1 => ?_) (fun c1 => ?_)
  · skip
    refine J.iconst (v := nI 0) X dX5_isKey_23 (by decide) ?_
    refine J.zreturn X dX5_isKey_24 (rfl) (jRi.of ?_)
    exact ⟨jB_0 (fun q => c1 q.1), rfl⟩
  · skip
    refine J.iload1 X dX5_isKey_9 ?_
    refine J.iconst (v := nI 0) X dX5_isKey_10 (by decide) ?_
    refine J.bipush (v := nI 99) X dX5_isKey_11 (by decide) ?_
    refine J.callSi X dX5_isKey_13 lk_X5_54 ce_X5_in (tw_in F n 0 99) (by decide) rfl (fun r h' e _ => ?_)
    obtain ⟨rfl, rfl⟩ := e
    refine J.if_eqB (tgt := 23) X dX5_isKey_16 (by decide) (fun c2 => ?_) (fun c2 => ?_)
    · skip
      refine J.iconst (v := nI 0) X dX5_isKey_23 (by decide) ?_
      refine J.zreturn X dX5_isKey_24 (rfl) (jRi.of ?_)
      exact ⟨jB_0 (fun q => c2 q.2), rfl⟩
    · skip
      refine J.iconst (v := nI 1) X dX5_isKey_19 (by decide) ?_
      refine J.goto (tgt := 24) X dX5_isKey_20 (by decide) ?_
      refine J.zreturn X dX5_isKey_24 (rfl) (jRi.of ?_)
      exact ⟨jB_1 ⟨c1, c2⟩, rfl⟩
/-- where a key is; the row's places that say it hold 0 .. 4 -/
def wh (g : Nat → Int32) (k : Nat) : Nat := (g k).toNatClampNeg
def WG (g : Nat → Int32) : Prop := ∀ k, k < 400 → wh g k ≤ 4 ∧ g k = nI (wh g k)
def tgoes (g : Nat → Int32) (k q : Nat) : Nat → Int32 :=
  let g1 := upd g (3204 + wh g k) (g (3204 + wh g k) - g (800 + k))
  let g2 := upd g1 k (nI q)
  let g3 := upd g2 (3204 + q) (g2 (3204 + q) + g2 (800 + k))
  let g4 := upd g3 3215 (g3 3215 + nI 1)
  upd g4 (2800 + k) (g3 3215)
theorem upd_at (f : Nat → Int32) (k : Nat) (x : Int32) (j : Nat) : upd f k x j = if j = k then x else f j := rfl
theorem wh_eq {g : Nat → Int32} {k q : Nat} (h : g k = nI q) (hq : q ≤ 4) : wh g k = q := by unfold wh; rw [h]; exact nI_clamp (by omega)
theorem WG.of {g : Nat → Int32} (h : ∀ k, k < 400 → ∃ q, q ≤ 4 ∧ g k = nI q) : WG g := fun k hk => by
  obtain ⟨q, h1, h2⟩ := h k hk
  rw [wh_eq h2 h1]
  exact ⟨h1, h2⟩
theorem WG.same {g g' : Nat → Int32} (h : WG g) (e : ∀ k, k < 400 → g' k = g k) : WG g' := WG.of fun k hk => ⟨wh g k, (h k hk).1, by rw [e k hk]; exact (h k hk).2⟩
theorem WG.upd {g : Nat → Int32} (h : WG g) {j : Nat} (hj : 400 ≤ j) (x : Int32) : WG (upd g j x) := h.same fun k hk => by rw [upd_at, if_neg (by omega)]
theorem WG.goes {g : Nat → Int32} (h : WG g) {k q : Nat} (hk : k < 400) (hq : q ≤ 4) : WG (tgoes g k q) := WG.of fun j hj => by
  unfold tgoes
  simp only [upd_at]
  by_cases e : j = k
  · exact ⟨q, hq, by subst e; rw [if_neg (by omega), if_neg (by omega), if_neg (by omega), if_pos rfl]⟩
  · exact ⟨wh g j, (h j hj).1, by rw [if_neg (by omega), if_neg (by omega), if_neg (by omega), if_neg e, if_neg (by omega)]; exact (h j hj).2⟩
theorem tw_goes {K : JK} {l : Launch} {h : JIH} {A : Nat} {g sv kp go tx ac ky wt mn ts tz : Nat → Int32} {tp : Nat → Nat → Int64} {mv : Nat → Int64} {i0 i1 i2 i3 i4 i5 : Int32} (F : JF K) (T : TwR K h A g sv kp go tx ac ky wt mn ts tz tp mv i0 i1 i2 i3 i4 i5) (hw : WG g) {k q : Nat} (hk : k < 400) (hq : q ≤ 4) :
    Ct K l yX5_goes wX5_goes 0 [.ref A, .int (nI k), .int (nI q)] h (jRv (fun h' => TwS K h h' A (tgoes g k q) sv kp go tx ac ky wt mn ts tz tp mv i0 i1 i2 i3 i4 i5)) jNo := by
  refine st_X5_goes (ls := [some (.ref A), some (.int (nI k)), some (.int (nI q))]) F rfl (body := fun M X => ?_)
  have S := T.S
  have hwk := (hw k hk).1
  refine J.aload0 X dX5_goes_0 ?_
  refine J.getf X dX5_goes_1 fl_X5_11_X5 (S.o) rfl ?_
  refine J.sipush (v := nI 3204) X dX5_goes_4 (by decide) ?_
  refine J.aload0 X dX5_goes_7 ?_
  refine J.getf X dX5_goes_8 fl_X5_11_X5 (S.o) rfl ?_
  refine J.iconst (v := nI 0) X dX5_goes_11 (by decide) ?_
  refine J.iload1 X dX5_goes_12 ?_
  refine J.iadd0N X dX5_goes_13 ?_
  refine J.iald X dX5_goes_14 (S.r_g) (rfl) (by omega) ?_
  refine J.topi (y := nI (wh g k)) ((hw k hk).2) ?_
  refine J.iaddN X dX5_goes_15 ?_
  refine J.dup2 X dX5_goes_16 ?_
  refine J.iald X dX5_goes_17 (S.r_g) (rfl) (by omega) ?_
  refine J.aload0 X dX5_goes_18 ?_
  refine J.getf X dX5_goes_19 fl_X5_11_X5 (S.o) rfl ?_
  refine J.sipush (v := nI 800) X dX5_goes_22 (by decide) ?_
  refine J.iload1 X dX5_goes_25 ?_
  refine J.iaddN X dX5_goes_26 ?_
  refine J.iald X dX5_goes_27 (S.r_g) (rfl) (by omega) ?_
  refine J.isub X dX5_goes_28 ?_
  refine J.tw_g X dX5_goes_29 S (rfl) (by omega) (fun h S => ?_)
  refine J.aload0 X dX5_goes_30 ?_
  refine J.at (pc' := 31) rfl ?_
  refine J.getf X dX5_goes_31 fl_X5_11_X5 (S.o) rfl ?_
  refine J.iconst (v := nI 0) X dX5_goes_34 (by decide) ?_
  refine J.iload1 X dX5_goes_35 ?_
  refine J.iadd0N X dX5_goes_36 ?_
  refine J.iload2 X dX5_goes_37 ?_
  refine J.tw_g X dX5_goes_38 S (rfl) (by omega) (fun h S => ?_)
  refine J.aload0 X dX5_goes_39 ?_
  refine J.getf X dX5_goes_40 fl_X5_11_X5 (S.o) rfl ?_
  refine J.sipush (v := nI 3204) X dX5_goes_43 (by decide) ?_
  refine J.iload2 X dX5_goes_46 ?_
  refine J.iaddN X dX5_goes_47 ?_
  refine J.dup2 X dX5_goes_48 ?_
  refine J.at (pc' := 49) rfl ?_
  refine J.iald X dX5_goes_49 (S.r_g) (rfl) (by omega) ?_
  refine J.aload0 X dX5_goes_50 ?_
  refine J.getf X dX5_goes_51 fl_X5_11_X5 (S.o) rfl ?_
  refine J.sipush (v := nI 800) X dX5_goes_54 (by decide) ?_
  refine J.iload1 X dX5_goes_57 ?_
  refine J.iaddN X dX5_goes_58 ?_
  refine J.iald X dX5_goes_59 (S.r_g) (rfl) (by omega) ?_
  refine J.iadd X dX5_goes_60 ?_
  refine J.tw_g X dX5_goes_61 S (rfl) (by omega) (fun h S => ?_)
  refine J.aload0 X dX5_goes_62 ?_
  refine J.getf X dX5_goes_63 fl_X5_11_X5 (S.o) rfl ?_
  refine J.sipush (v := nI 2800) X dX5_goes_66 (by decide) ?_
  refine J.at (pc' := 69) rfl ?_
  refine J.iload1 X dX5_goes_69 ?_
  refine J.iaddN X dX5_goes_70 ?_
  refine J.aload0 X dX5_goes_71 ?_
  refine J.getf X dX5_goes_72 fl_X5_11_X5 (S.o) rfl ?_
  refine J.sipush (v := nI 3215) X dX5_goes_75 (by decide) ?_
  refine J.dup2 X dX5_goes_78 ?_
  refine J.iald X dX5_goes_79 (S.r_g) (rfl) (by omega) ?_
  refine J.dup_x2 X dX5_goes_80 ?_
  refine J.iconst (v := nI 1) X dX5_goes_81 (by decide) ?_
  refine J.iadd X dX5_goes_82 ?_
  refine J.tw_g X dX5_goes_83 S (rfl) (by omega) (fun h S => ?_)
  refine J.tw_g X dX5_goes_84 S (rfl) (by omega) (fun h S => ?_)
  refine J.vreturn X dX5_goes_85 (jRv.of ?_)
  exact S
def tweighs (g : Nat → Int32) (k : Nat) (x : Int32) : Nat → Int32 :=
  let g1 := upd g (3204 + wh g k) (g (3204 + wh g k) + (x - g (800 + k)))
  upd g1 (800 + k) x
theorem WG.weighs {g : Nat → Int32} (h : WG g) {k : Nat} (x : Int32) : WG (tweighs g k x) := (h.upd (by omega) _).upd (by omega) _
theorem tw_weighs {K : JK} {l : Launch} {h : JIH} {A : Nat} {g sv kp go tx ac ky wt mn ts tz : Nat → Int32} {tp : Nat → Nat → Int64} {mv : Nat → Int64} {i0 i1 i2 i3 i4 i5 : Int32} (F : JF K) (T : TwR K h A g sv kp go tx ac ky wt mn ts tz tp mv i0 i1 i2 i3 i4 i5) (hw : WG g) {k : Nat} (hk : k < 400) (x : Int32) :
    Ct K l yX5_weighs wX5_weighs 0 [.ref A, .int (nI k), .int x] h (jRv (fun h' => TwS K h h' A (tweighs g k x) sv kp go tx ac ky wt mn ts tz tp mv i0 i1 i2 i3 i4 i5)) jNo := by
  refine st_X5_weighs (ls := [some (.ref A), some (.int (nI k)), some (.int x)]) F rfl (body := fun M X => ?_)
  have S := T.S
  have hwk := (hw k hk).1
  refine J.aload0 X dX5_weighs_0 ?_
  refine J.getf X dX5_weighs_1 fl_X5_11_X5 (S.o) rfl ?_
  refine J.sipush (v := nI 3204) X dX5_weighs_4 (by decide) ?_
  refine J.aload0 X dX5_weighs_7 ?_
  refine J.getf X dX5_weighs_8 fl_X5_11_X5 (S.o) rfl ?_
  refine J.iconst (v := nI 0) X dX5_weighs_11 (by decide) ?_
  refine J.iload1 X dX5_weighs_12 ?_
  refine J.iadd0N X dX5_weighs_13 ?_
  refine J.iald X dX5_weighs_14 (S.r_g) (rfl) (by omega) ?_
  refine J.topi (y := nI (wh g k)) ((hw k hk).2) ?_
  refine J.iaddN X dX5_weighs_15 ?_
  refine J.dup2 X dX5_weighs_16 ?_
  refine J.iald X dX5_weighs_17 (S.r_g) (rfl) (by omega) ?_
  refine J.iload2 X dX5_weighs_18 ?_
  refine J.aload0 X dX5_weighs_19 ?_
  refine J.getf X dX5_weighs_20 fl_X5_11_X5 (S.o) rfl ?_
  refine J.sipush (v := nI 800) X dX5_weighs_23 (by decide) ?_
  refine J.iload1 X dX5_weighs_26 ?_
  refine J.iaddN X dX5_weighs_27 ?_
  refine J.iald X dX5_weighs_28 (S.r_g) (rfl) (by omega) ?_
  refine J.isub X dX5_weighs_29 ?_
  refine J.iadd X dX5_weighs_30 ?_
  refine J.at (pc' := 31) rfl ?_
  refine J.tw_g X dX5_weighs_31 S (rfl) (by omega) (fun h S => ?_)
  refine J.aload0 X dX5_weighs_32 ?_
  refine J.getf X dX5_weighs_33 fl_X5_11_X5 (S.o) rfl ?_
  refine J.sipush (v := nI 800) X dX5_weighs_36 (by decide) ?_
  refine J.iload1 X dX5_weighs_39 ?_
  refine J.iaddN X dX5_weighs_40 ?_
  refine J.iload2 X dX5_weighs_41 ?_
  refine J.tw_g X dX5_weighs_42 S (rfl) (by omega) (fun h S => ?_)
  refine J.vreturn X dX5_weighs_43 (jRv.of ?_)
  exact S
theorem tw_isThing {K : JK} {l : Launch} {h : JIH} {A : Nat} {g sv kp go tx ac ky wt mn ts tz : Nat → Int32} {tp : Nat → Nat → Int64} {mv : Nat → Int64} {i0 i1 i2 i3 i4 i5 : Int32} (F : JF K) (T : TwR K h A g sv kp go tx ac ky wt mn ts tz tp mv i0 i1 i2 i3 i4 i5) (hw : WG g) {k : Nat} (hk : k < 400) :
    Ct K l yX5_isThing wX5_isThing 0 [.ref A, .int (nI k)] h (jRi (fun r h' => r = jB (wh g k = 1 ∨ wh g k = 2) ∧ h = h')) jNo := by
  refine st_X5_isThing (ls := [some (.ref A), some (.int (nI k))]) F rfl (body := fun M X => ?_)
  have S := T.S
  have hwk := (hw k hk).1
  refine J.aload0 X dX5_isThing_0 ?_
  refine J.getf X dX5_isThing_1 fl_X5_11_X5 (S.o) rfl ?_
  refine J.iconst (v := nI 0) X dX5_isThing_4 (by decide) ?_
  refine J.iload1 X dX5_isThing_5 ?_
  refine J.iadd0N X dX5_isThing_6 ?_
  refine J.iald X dX5_isThing_7 (S.r_g) (rfl) (by omega) ?_
  refine J.topi (y := nI (wh g k)) ((hw k hk).2) ?_
  refine J.iconst (v := nI 1) X dX5_isThing_8 (by decide) ?_
  refine J.icmp_eqN (tgt := 24) X dX5_isThing_9 (by decide) (by omega) (by omega) (fun c1 => ?_) (fun c1 => ?_)
  · skip
    refine J.iconst (v := nI 1) X dX5_isThing_24 (by decide) ?_
    refine J.goto (tgt := 29) X dX5_isThing_25 (by decide) ?_
    refine J.zreturn X dX5_isThing_29 (rfl) (jRi.of ?_)
    exact ⟨jB_1 (Or.inl c1), rfl⟩
  · skip
    refine J.aload0 X dX5_isThing_12 ?_
    refine J.getf X dX5_isThing_13 fl_X5_11_X5 (S.o) rfl ?_
    refine J.iconst (v := nI 0) X dX5_isThing_16 (by decide) ?_
    refine J.iload1 X dX5_isThing_17 ?_
    refine J.iadd0N X dX5_isThing_18 ?_
    refine J.iald X dX5_isThing_19 (S.r_g) (rfl) (by omega) ?_
    refine J.topi (y := nI (wh g k)) ((hw k hk).2) ?_
    refine J.iconst (v := nI 2) X dX5_isThing_20 (by decide) ?_
    refine J.icmp_neN (tgt := 28) X dX5_isThing_21 (by decide) (by omega) (by omega) (fun c2 => ?_) (fun c2 => ?_)
    · skip
      refine J.iconst (v := nI 0) X dX5_isThing_28 (by decide) ?_
      refine J.zreturn X dX5_isThing_29 (rfl) (jRi.of ?_)
      exact ⟨jB_0 (fun q => q.elim c1 c2), rfl⟩
    · skip
      refine J.iconst (v := nI 1) X dX5_isThing_24 (by decide) ?_
      refine J.goto (tgt := 29) X dX5_isThing_25 (by decide) ?_
      refine J.zreturn X dX5_isThing_29 (rfl) (jRi.of ?_)
      exact ⟨jB_1 (Or.inr c2), rfl⟩
/-- the oldest at q among the keys below i, if wanted of those not pinned -/
def bI : Option Nat → Int32
  | none => -1
  | some b => nI b
def ob (g : Nat → Int32) (q : Nat) (fr : Bool) : Nat → Option Nat
  | 0 => none
  | i + 1 => if wh g i = q ∧ ¬ (fr = true ∧ g (2400 + i) = nI 1) ∧ (∀ b, ob g q fr i = some b → g (2800 + i) < g (2800 + b)) then some i else ob g q fr i
theorem ob_lt {g : Nat → Int32} {q : Nat} {fr : Bool} : ∀ {i b : Nat}, ob g q fr i = some b → b < i ∧ wh g b = q
  | 0, _, h => by cases h
  | i + 1, b, h => by
    unfold ob at h
    split at h
    · rename_i c
      cases h
      exact ⟨by omega, c.1⟩
    · exact ⟨by have := (ob_lt h).1; omega, (ob_lt h).2⟩
theorem ob_no {g : Nat → Int32} {q : Nat} {fr : Bool} {i : Nat} (h : ¬ (wh g i = q ∧ ¬ (fr = true ∧ g (2400 + i) = nI 1) ∧ (∀ b, ob g q fr i = some b → g (2800 + i) < g (2800 + b)))) : ob g q fr (i + 1) = ob g q fr i := if_neg h
theorem ob_yes {g : Nat → Int32} {q : Nat} {fr : Bool} {i : Nat} (h : wh g i = q ∧ ¬ (fr = true ∧ g (2400 + i) = nI 1) ∧ (∀ b, ob g q fr i = some b → g (2800 + i) < g (2800 + b))) : ob g q fr (i + 1) = some i := if_pos h
theorem tw_oldest {K : JK} {l : Launch} {h : JIH} {A : Nat} {g sv kp go tx ac ky wt mn ts tz : Nat → Int32} {tp : Nat → Nat → Int64} {mv : Nat → Int64} {i0 i1 i2 i3 i4 i5 : Int32} (F : JF K) (T : TwR K h A g sv kp go tx ac ky wt mn ts tz tp mv i0 i1 i2 i3 i4 i5) (hw : WG g) {q : Nat} (hq : q ≤ 4) (fr : Bool) :
    Ct K l yX5_oldest wX5_oldest 0 [.ref A, .int (nI q), .int (nI fr.toNat)] h (jRi (fun r h' => r = bI (ob g q fr 400) ∧ h = h')) jNo := by
  refine st_X5_oldest (ls := [some (.ref A), some (.int (nI q)), some (.int (nI fr.toNat)), none, none]) F rfl (body := fun M X => ?_)
  have S := T.S
  have hfr : fr.toNat < 2 := by cases fr <;> decide
  have loop : ∀ n i, i + n = 400 → J M h 5 [some (.ref A), some (.int (nI q)), some (.int (nI fr.toNat)), some (.int (bI (ob g q fr i))), some (.int (nI i))] [] := by
    intro n
    induction n with
    | zero =>
      intro i hi
      refine J.iload4 X dX5_oldest_5 ?_
      refine J.sipush (v := nI 400) X dX5_oldest_7 (by decide) ?_
      refine J.icmp_geN (tgt := 82) X dX5_oldest_10 (by decide) (by omega) (by omega) (fun c1 => ?_) (fun c1 => ?_)
      · skip
        refine J.iload3 X dX5_oldest_82 ?_
        refine J.zreturn X dX5_oldest_83 (rfl) (jRi.of ?_)
        exact ⟨by rw [show i = 400 by omega], rfl⟩
      · skip
        exact absurd c1 (by omega)
    | succ n ih =>
      intro i hi
      have hi4 : i < 400 := by omega
      have hwi := (hw i hi4).1
      have nxt := ih (i + 1) (by omega)
      refine J.iload4 X dX5_oldest_5 ?_
      refine J.sipush (v := nI 400) X dX5_oldest_7 (by decide) ?_
      refine J.icmp_geN (tgt := 82) X dX5_oldest_10 (by decide) (by omega) (by omega) (fun c1 => ?_) (fun c1 => ?_)
      · skip
        exact absurd c1 (by omega)
      · skip
        refine J.aload0 X dX5_oldest_13 ?_
        refine J.getf X dX5_oldest_14 fl_X5_11_X5 (S.o) rfl ?_
        refine J.iconst (v := nI 0) X dX5_oldest_17 (by decide) ?_
        refine J.iload4 X dX5_oldest_18 ?_
        refine J.iadd0N X dX5_oldest_20 ?_
        refine J.iald X dX5_oldest_21 (S.r_g) (rfl) (by omega) ?_
        refine J.topi (y := nI (wh g i)) ((hw i hi4).2) ?_
        refine J.iload1 X dX5_oldest_22 ?_
        refine J.icmp_neN (tgt := 76) X dX5_oldest_23 (by decide) (by omega) (by omega) (fun c2 => ?_) (fun c2 => ?_)
        · skip
          refine J.iinc4N (d := 1) X dX5_oldest_76 (by decide) ?_
          refine J.goto (tgt := 5) X dX5_oldest_79 (by decide) ?_
          rw [ob_no (fun z => c2 z.1)] at nxt
          exact nxt
        · skip
          refine J.iload2 X dX5_oldest_26 ?_
          have tail : ¬ (fr = true ∧ g (2400 + i) = nI 1) → J M h 45 [some (.ref A), some (.int (nI q)), some (.int (nI fr.toNat)), some (.int (bI (ob g q fr i))), some (.int (nI i))] [] := by
            intro c3
            cases hb : ob g q fr i with
            | none =>
              refine J.iload3 X dX5_oldest_45 ?_
              refine J.if_lt (tgt := 73) X dX5_oldest_46 (by decide) (fun c4 => ?_) (fun c4 => ?_)
              · skip
                refine J.iload4 X dX5_oldest_73 ?_
                refine J.istore3 X dX5_oldest_75 ?_
                refine J.iinc4N (d := 1) X dX5_oldest_76 (by decide) ?_
                refine J.goto (tgt := 5) X dX5_oldest_79 (by decide) ?_
                rw [ob_yes ⟨c2, c3, fun b z => by rw [hb] at z; cases z⟩] at nxt
                exact nxt
              · skip
                exact absurd (show bI none < 0 by decide) c4
            | some b =>
              have hbl := (ob_lt hb).1
              refine J.iload3 X dX5_oldest_45 ?_
              refine J.if_ltN (tgt := 73) X dX5_oldest_46 (by decide) (by omega) ?_
              refine J.aload0 X dX5_oldest_49 ?_
              refine J.getf X dX5_oldest_50 fl_X5_11_X5 (S.o) rfl ?_
              refine J.sipush (v := nI 2800) X dX5_oldest_53 (by decide) ?_
              refine J.iload4 X dX5_oldest_56 ?_
              refine J.iaddN X dX5_oldest_58 ?_
              refine J.iald X dX5_oldest_59 (S.r_g) (rfl) (by omega) ?_
              refine J.aload0 X dX5_oldest_60 ?_
              refine J.getf X dX5_oldest_61 fl_X5_11_X5 (S.o) rfl ?_
              refine J.sipush (v := nI 2800) X dX5_oldest_64 (by decide) ?_
              refine J.iload3 X dX5_oldest_67 ?_
              refine J.iaddN X dX5_oldest_68 ?_
              refine J.iald X dX5_oldest_69 (S.r_g) (rfl) (by omega) ?_
              refine J.at (pc' := 70) rfl ?_
              refine J.icmp_ge (tgt := 76) X dX5_oldest_70 (by decide) (fun c4 => ?_) (fun c4 => ?_)
              · skip
                refine J.iinc4N (d := 1) X dX5_oldest_76 (by decide) ?_
                refine J.goto (tgt := 5) X dX5_oldest_79 (by decide) ?_
                rw [ob_no (fun z => absurd (z.2.2 b hb) (Int32.not_lt.mpr c4)), hb] at nxt
                exact nxt
              · skip
                refine J.iload4 X dX5_oldest_73 ?_
                refine J.istore3 X dX5_oldest_75 ?_
                refine J.iinc4N (d := 1) X dX5_oldest_76 (by decide) ?_
                refine J.goto (tgt := 5) X dX5_oldest_79 (by decide) ?_
                rw [ob_yes ⟨c2, c3, fun b' z => by rw [hb] at z; cases z; exact Int32.not_le.mp c4⟩] at nxt
                exact nxt
          refine J.if_eqN (tgt := 45) X dX5_oldest_27 (by decide) (by omega) (fun c3 => ?_) (fun c3 => ?_)
          · skip
            exact tail (fun z => by rw [z.1] at c3; cases c3)
          · skip
            refine J.aload0 X dX5_oldest_30 ?_
            refine J.getf X dX5_oldest_31 fl_X5_11_X5 (S.o) rfl ?_
            refine J.sipush (v := nI 2400) X dX5_oldest_34 (by decide) ?_
            refine J.iload4 X dX5_oldest_37 ?_
            refine J.iaddN X dX5_oldest_39 ?_
            refine J.iald X dX5_oldest_40 (S.r_g) (rfl) (by omega) ?_
            refine J.iconst (v := nI 1) X dX5_oldest_41 (by decide) ?_
            refine J.icmp_eq (tgt := 76) X dX5_oldest_42 (by decide) (fun c4 => ?_) (fun c4 => ?_)
            · skip
              refine J.iinc4N (d := 1) X dX5_oldest_76 (by decide) ?_
              refine J.goto (tgt := 5) X dX5_oldest_79 (by decide) ?_
              rw [ob_no (fun z => z.2.1 ⟨by cases fr <;> first | rfl | exact absurd rfl c3, c4⟩)] at nxt
              exact nxt
            · skip
              exact tail (fun z => c4 z.2)
  refine J.iconst (v := -1) X dX5_oldest_0 (by decide) ?_
  refine J.istore3 X dX5_oldest_1 ?_
  refine J.iconst (v := nI 0) X dX5_oldest_2 (by decide) ?_
  refine J.istore4 X dX5_oldest_3 ?_
  exact loop 400 0 rfl
