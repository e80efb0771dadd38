/-! a Sketch: one goes; the oldest -/
def skNx (nx ah : Nat → Option Nat) (k : Nat) : Nat → Option Nat := match ah k with
  | none => nx
  | some b => va_up nx b (nx k)
def skFi (nx ah fi : Nat → Option Nat) (k q : Nat) : Nat → Option Nat := match ah k with
  | none => va_up fi q (nx k)
  | some _ => fi
def skLa (nx1 ah la : Nat → Option Nat) (k q : Nat) : Nat → Option Nat := match nx1 k with
  | none => va_up la q (ah k)
  | some _ => la
def skAh (nx1 ah : Nat → Option Nat) (k : Nat) : Nat → Option Nat := match nx1 k with
  | none => ah
  | some c => va_up ah c (ah k)
theorem bI_m1 {b : Nat} (h : b < 2147483648) : ¬ nI b = -1 := fun z => absurd (show nI b < 0 from z ▸ (by decide)) (nI_pos h)
theorem skB_nx {nx ah : Nat → Option Nat} {k : Nat} (hk : k < 400) (h : skB nx 400) : skB (skNx nx ah k) 400 := by
  unfold skNx
  cases ah k with
  | none => exact h
  | some b =>
    intro i hi c hc
    replace hc : va_up nx b (nx k) i = some c := hc
    by_cases e : i = b
    · subst e; rw [show va_up nx i (nx k) i = nx k from va_up_self _ _ _] at hc; exact h k hk c hc
    · rw [show va_up nx b (nx k) i = nx i from va_up_ne _ _ e] at hc; exact h i hi c hc
theorem sk_loses {K : JK} {l : Launch} {hE : JIH} {B : Nat} {wh : Nat → Nat} {nx : Nat → Option Nat} {ah : Nat → Option Nat} {wt : Nat → Int32} {ht : Nat → Int32} {ch : Nat → Int32} {pn : Nat → Nat} {fi : Nat → Option Nat} {la : Nat → Option Nat} {to : Nat → Int32} {s0 s1 s2 s3 s4 s5 s6 s7 s8 : Int32} (F : JF K) (T : SkR K hE B wh nx ah wt ht ch pn fi la to s0 s1 s2 s3 s4 s5 s6 s7 s8) {k : Nat} (hk : k < 400) (hw : wh k ≤ 4) (hn : skB nx 400) (ha : skB ah 400) (h0 : wh k ≠ 0) :
    Ct K l yX3_loses wX3_loses 0 [.ref B, .int (nI k)] hE (jRi (fun r h' => r = nI (wh k) ∧ SkS K hE h' B (va_up wh k 0) (skNx nx ah k) (skAh (skNx nx ah k) ah k) wt ht ch pn (skFi nx ah fi k (wh k)) (skLa (skNx nx ah k) ah la k (wh k)) (upd to (wh k) (to (wh k) - wt k)) s0 s1 s2 s3 s4 s5 s6 s7 s8)) jNo := by
  refine st_X3_loses (ls := [some (.ref B), some (.int (nI k)), none]) F rfl (body := fun M X => ?_)
  have S := T.S
  -- behind the first half
  have mid : ∀ h1 : JIH, SkS K hE h1 B wh (skNx nx ah k) ah wt ht ch pn (skFi nx ah fi k (wh k)) la to s0 s1 s2 s3 s4 s5 s6 s7 s8 → J M h1 55 [some (.ref B), some (.int (nI k)), some (.int (nI (wh k)))] [] := by
    intro h1 S
    have hn1 := skB_nx (ah := ah) hk hn
    generalize hnx : skNx nx ah k = nx1 at S hn1
    generalize hfi : skFi nx ah fi k (wh k) = fi1 at S
    have fin : ∀ h1 : JIH, SkS K hE h1 B wh (nx1) (skAh nx1 ah k) wt ht ch pn (fi1) (skLa nx1 ah la k (wh k)) to s0 s1 s2 s3 s4 s5 s6 s7 s8 → J M h1 97 [some (.ref B), some (.int (nI k)), some (.int (nI (wh k)))] [] := by
      intro h1 S
      refine J.aload0 X dX3_loses_97 ?_
      refine J.getf X dX3_loses_98 fl_X3_40_X3 (S.o) rfl ?_
      refine J.iload2 X dX3_loses_101 ?_
      refine J.dup2 X dX3_loses_102 ?_
      refine J.iald X dX3_loses_103 (S.r_to) (rfl) (by omega) ?_
      refine J.aload0 X dX3_loses_104 ?_
      refine J.getf X dX3_loses_105 fl_X3_21_X3 (S.o) rfl ?_
      refine J.iload1 X dX3_loses_108 ?_
      refine J.iald X dX3_loses_109 (S.r_wt) (rfl) (by omega) ?_
      refine J.isub X dX3_loses_110 ?_
      refine J.sk_to X dX3_loses_111 S (rfl) (by omega) (fun h S => ?_)
      refine J.aload0 X dX3_loses_112 ?_
      refine J.at (pc' := 113) rfl ?_
      refine J.getf X dX3_loses_113 fl_X3_11_X3 (S.o) rfl ?_
      refine J.iload1 X dX3_loses_116 ?_
      refine J.iconst (v := nI 0) X dX3_loses_117 (by decide) ?_
      refine J.sk_wh X dX3_loses_118 S (rfl) (by omega) (fun h S => ?_)
      refine J.iload2 X dX3_loses_119 ?_
      refine J.zreturn X dX3_loses_120 (rfl) (jRi.of ?_)
      rw [hnx, hfi]
      exact ⟨rfl, S⟩
    refine J.aload0 X dX3_loses_55 ?_
    refine J.getf X dX3_loses_56 fl_X3_15_X3 (S.o) rfl ?_
    refine J.iload1 X dX3_loses_59 ?_
    refine J.iald X dX3_loses_60 (S.r_nx) (rfl) (by omega) ?_
    cases hb : nx1 k with
    | none =>
      refine J.topi (y := -1) rfl ?_
      refine J.iconst (v := -1) X dX3_loses_61 (by decide) ?_
      refine J.icmp_ne (tgt := 80) X dX3_loses_62 (by decide) (fun q9 => absurd q9 (by decide)) (fun _ => ?_)
      refine J.aload0 X dX3_loses_65 ?_
      refine J.getf X dX3_loses_66 fl_X3_37_X3 (S.o) rfl ?_
      refine J.iload2 X dX3_loses_69 ?_
      refine J.aload0 X dX3_loses_70 ?_
      refine J.getf X dX3_loses_71 fl_X3_18_X3 (S.o) rfl ?_
      refine J.iload1 X dX3_loses_74 ?_
      refine J.iald X dX3_loses_75 (S.r_ah) (rfl) (by omega) ?_
      refine J.sk_la X dX3_loses_76 S (rfl) (by omega) (fun h S => ?_)
      refine J.goto (tgt := 97) X dX3_loses_77 (by decide) ?_
      refine fin _ ?_
      unfold skLa skAh
      rw [hb]
      exact S
    | some c =>
      have hc4 := hn1 k hk c hb
      refine J.topi (y := nI (c)) (rfl) ?_
      refine J.iconst (v := -1) X dX3_loses_61 (by decide) ?_
      refine J.icmp_ne (tgt := 80) X dX3_loses_62 (by decide) (fun _ => ?_) (fun z => absurd z (bI_m1 (by omega)))
      refine J.aload0 X dX3_loses_80 ?_
      refine J.getf X dX3_loses_81 fl_X3_18_X3 (S.o) rfl ?_
      refine J.aload0 X dX3_loses_84 ?_
      refine J.getf X dX3_loses_85 fl_X3_15_X3 (S.o) rfl ?_
      refine J.iload1 X dX3_loses_88 ?_
      refine J.iald X dX3_loses_89 (S.r_nx) (rfl) (by omega) ?_
      refine J.topi (y := nI (c)) (by rw [hb]; rfl) ?_
      refine J.aload0 X dX3_loses_90 ?_
      refine J.getf X dX3_loses_91 fl_X3_18_X3 (S.o) rfl ?_
      refine J.iload1 X dX3_loses_94 ?_
      refine J.iald X dX3_loses_95 (S.r_ah) (rfl) (by omega) ?_
      refine J.sk_ah X dX3_loses_96 S (rfl) (by omega) (fun h S => ?_)
      refine fin _ ?_
      unfold skLa skAh
      rw [hb]
      exact S
  refine J.aload0 X dX3_loses_0 ?_
  refine J.getf X dX3_loses_1 fl_X3_11_X3 (S.o) rfl ?_
  refine J.iload1 X dX3_loses_4 ?_
  refine J.iald X dX3_loses_5 (S.r_wh) (rfl) (by omega) ?_
  refine J.istore2 X dX3_loses_6 ?_
  refine J.iload2 X dX3_loses_7 ?_
  refine J.if_neN (tgt := 13) X dX3_loses_8 (by decide) (by omega) (fun _ => ?_) (fun q9 => absurd q9 (by omega))
  refine J.aload0 X dX3_loses_13 ?_
  refine J.getf X dX3_loses_14 fl_X3_18_X3 (S.o) rfl ?_
  refine J.iload1 X dX3_loses_17 ?_
  refine J.iald X dX3_loses_18 (S.r_ah) (rfl) (by omega) ?_
  cases hb : ah k with
  | none =>
    refine J.topi (y := -1) rfl ?_
    refine J.iconst (v := -1) X dX3_loses_19 (by decide) ?_
    refine J.icmp_ne (tgt := 38) X dX3_loses_20 (by decide) (fun q9 => absurd q9 (by decide)) (fun _ => ?_)
    refine J.aload0 X dX3_loses_23 ?_
    refine J.getf X dX3_loses_24 fl_X3_34_X3 (S.o) rfl ?_
    refine J.iload2 X dX3_loses_27 ?_
    refine J.aload0 X dX3_loses_28 ?_
    refine J.getf X dX3_loses_29 fl_X3_15_X3 (S.o) rfl ?_
    refine J.iload1 X dX3_loses_32 ?_
    refine J.iald X dX3_loses_33 (S.r_nx) (rfl) (by omega) ?_
    refine J.sk_fi X dX3_loses_34 S (rfl) (by omega) (fun h S => ?_)
    refine J.goto (tgt := 55) X dX3_loses_35 (by decide) ?_
    refine mid _ ?_
    unfold skNx skFi
    rw [hb]
    exact S
  | some c =>
    have hc4 := ha k hk c hb
    refine J.topi (y := nI (c)) (rfl) ?_
    refine J.iconst (v := -1) X dX3_loses_19 (by decide) ?_
    refine J.icmp_ne (tgt := 38) X dX3_loses_20 (by decide) (fun _ => ?_) (fun z => absurd z (bI_m1 (by omega)))
    refine J.aload0 X dX3_loses_38 ?_
    refine J.getf X dX3_loses_39 fl_X3_15_X3 (S.o) rfl ?_
    refine J.aload0 X dX3_loses_42 ?_
    refine J.getf X dX3_loses_43 fl_X3_18_X3 (S.o) rfl ?_
    refine J.iload1 X dX3_loses_46 ?_
    refine J.iald X dX3_loses_47 (S.r_ah) (rfl) (by omega) ?_
    refine J.topi (y := nI (c)) (by rw [hb]; rfl) ?_
    refine J.aload0 X dX3_loses_48 ?_
    refine J.getf X dX3_loses_49 fl_X3_15_X3 (S.o) rfl ?_
    refine J.iload1 X dX3_loses_52 ?_
    refine J.iald X dX3_loses_53 (S.r_nx) (rfl) (by omega) ?_
    refine J.sk_nx X dX3_loses_54 S (rfl) (by omega) (fun h S => ?_)
    refine mid _ ?_
    unfold skNx skFi
    rw [hb]
    exact S
theorem sk_loses0 {K : JK} {l : Launch} {hE : JIH} {B : Nat} {wh : Nat → Nat} {nx : Nat → Option Nat} {ah : Nat → Option Nat} {wt : Nat → Int32} {ht : Nat → Int32} {ch : Nat → Int32} {pn : Nat → Nat} {fi : Nat → Option Nat} {la : Nat → Option Nat} {to : Nat → Int32} {s0 s1 s2 s3 s4 s5 s6 s7 s8 : Int32} (F : JF K) (T : SkR K hE B wh nx ah wt ht ch pn fi la to s0 s1 s2 s3 s4 s5 s6 s7 s8) {k : Nat} (hk : k < 400) (h0 : wh k = 0) :
    Ct K l yX3_loses wX3_loses 0 [.ref B, .int (nI k)] hE (jRi (fun r h' => r = nI 0 ∧ hE = h')) jNo := by
  refine st_X3_loses (ls := [some (.ref B), some (.int (nI k)), none]) F rfl (body := fun M X => ?_)
  have S := T.S
  refine J.aload0 X dX3_loses_0 ?_
  refine J.getf X dX3_loses_1 fl_X3_11_X3 (S.o) rfl ?_
  refine J.iload1 X dX3_loses_4 ?_
  refine J.iald X dX3_loses_5 (S.r_wh) (rfl) (by omega) ?_
  refine J.istore2 X dX3_loses_6 ?_
  refine J.iload2 X dX3_loses_7 ?_
  refine J.if_neN (tgt := 13) X dX3_loses_8 (by decide) (by omega) (fun q9 => absurd q9 (by omega)) (fun _ => ?_)
  refine J.iconst (v := nI 0) X dX3_loses_11 (by decide) ?_
  refine J.zreturn X dX3_loses_12 (rfl) (jRi.of ?_)
  exact ⟨rfl, rfl⟩
/-- the first from k on that isn't pinned -/
def skOld (nx : Nat → Option Nat) (pn : Nat → Nat) : Nat → Option Nat → Option (Option Nat)
  | 0, _ => none
  | _ + 1, none => some none
  | f + 1, some k => if pn k = 0 then some (some k) else skOld nx pn f (nx k)
theorem skOld_lt {nx : Nat → Option Nat} {pn : Nat → Nat} (hn : skB nx 400) : ∀ {f : Nat} {o : Option Nat} {k : Nat}, (∀ b, o = some b → b < 400) → skOld nx pn f o = some (some k) → k < 400 ∧ pn k = 0
  | 0, _, _, _, h => by cases h
  | f + 1, none, _, _, h => by cases h
  | f + 1, some b, k, ho, h => by
    unfold skOld at h
    split at h
    · rename_i c
      cases h
      exact ⟨ho b rfl, c⟩
    · exact skOld_lt hn (fun c hc => hn b (ho b rfl) c hc) h
theorem sk_oldest0 {K : JK} {l : Launch} {hE : JIH} {B : Nat} {wh : Nat → Nat} {nx : Nat → Option Nat} {ah : Nat → Option Nat} {wt : Nat → Int32} {ht : Nat → Int32} {ch : Nat → Int32} {pn : Nat → Nat} {fi : Nat → Option Nat} {la : Nat → Option Nat} {to : Nat → Int32} {s0 s1 s2 s3 s4 s5 s6 s7 s8 : Int32} (F : JF K) (T : SkR K hE B wh nx ah wt ht ch pn fi la to s0 s1 s2 s3 s4 s5 s6 s7 s8) {q : Nat} (hq : q ≤ 4) (hn : skB nx 400) (hfi : skB fi 5) (hpn : ∀ k, pn k < 2) {f : Nat} (hf : skOld nx pn f (fi q) = some none) :
    Ct K l yX3_oldest wX3_oldest 1 [.ref B, .int (nI q)] hE (jRi (fun r h' => r = bI none ∧ hE = h')) jNo := by
  refine st_X3_oldest (ls := [some (.ref B), some (.int (nI q)), none]) F rfl (body := fun M X => ?_)
  have S := T.S
  have loop : ∀ (f : Nat) (o : Option Nat), (∀ b, o = some b → b < 400) → skOld nx pn f o = some none → J M hE 7 [some (.ref B), some (.int (nI q)), some (.int (bI o))] [] := by
    intro f
    induction f with
    | zero => intro o ho hf; cases hf
    | succ f ih =>
      intro o ho hf
      cases o with
      | none =>
        refine J.iload2 X dX3_oldest_7 ?_
        refine J.iconst (v := -1) X dX3_oldest_8 (by decide) ?_
        refine J.icmp_eq (tgt := 31) X dX3_oldest_9 (by decide) (fun _ => ?_) (fun q9 => absurd q9 (by decide))
        refine J.iload2 X dX3_oldest_31 ?_
        refine J.iconst (v := -1) X dX3_oldest_32 (by decide) ?_
        refine J.icmp_eq (tgt := 42) X dX3_oldest_33 (by decide) (fun _ => ?_) (fun q9 => absurd q9 (by decide))
        refine J.iload2 X dX3_oldest_42 ?_
        refine J.zreturn X dX3_oldest_43 (rfl) (jRi.of ?_)
        exact ⟨rfl, rfl⟩
      | some k =>
        have hk := ho k rfl
        have hpk := hpn k
        unfold skOld at hf
        refine J.iload2 X dX3_oldest_7 ?_
        refine J.iconst (v := -1) X dX3_oldest_8 (by decide) ?_
        refine J.icmp_eq (tgt := 31) X dX3_oldest_9 (by decide) (fun z => absurd z (bI_m1 (by omega))) (fun _ => ?_)
        refine J.aload0 X dX3_oldest_12 ?_
        refine J.getf X dX3_oldest_13 fl_X3_30_X3 (S.o) rfl ?_
        refine J.iload2 X dX3_oldest_16 ?_
        refine J.zald X dX3_oldest_17 (S.r_pn) (rfl) (by omega) ?_
        refine J.if_eqN (tgt := 31) X dX3_oldest_18 (by decide) (by omega) (fun c1 => ?_) (fun c1 => ?_)
        · skip
          rw [if_pos c1] at hf
          cases hf
        · skip
          rw [if_neg c1] at hf
          refine J.aload0 X dX3_oldest_21 ?_
          refine J.getf X dX3_oldest_22 fl_X3_15_X3 (S.o) rfl ?_
          refine J.iload2 X dX3_oldest_25 ?_
          refine J.iald X dX3_oldest_26 (S.r_nx) (rfl) (by omega) ?_
          refine J.istore2 X dX3_oldest_27 ?_
          refine J.goto (tgt := 7) X dX3_oldest_28 (by decide) ?_
          exact ih _ (fun c hc => hn k hk c hc) hf
  refine J.aload0 X dX3_oldest_0 ?_
  refine J.getf X dX3_oldest_1 fl_X3_34_X3 (S.o) rfl ?_
  refine J.iload1 X dX3_oldest_4 ?_
  refine J.iald X dX3_oldest_5 (S.r_fi) (rfl) (by omega) ?_
  refine J.istore2 X dX3_oldest_6 ?_
  exact loop f _ (fun b hb => hfi q (by omega) b hb) hf
theorem sk_oldest {K : JK} {l : Launch} {hE : JIH} {B : Nat} {wh : Nat → Nat} {nx : Nat → Option Nat} {ah : Nat → Option Nat} {wt : Nat → Int32} {ht : Nat → Int32} {ch : Nat → Int32} {pn : Nat → Nat} {fi : Nat → Option Nat} {la : Nat → Option Nat} {to : Nat → Int32} {s0 s1 s2 s3 s4 s5 s6 s7 s8 : Int32} (F : JF K) (T : SkR K hE B wh nx ah wt ht ch pn fi la to s0 s1 s2 s3 s4 s5 s6 s7 s8) {q : Nat} (hq : q ≤ 4) (hn : skB nx 400) (ha : skB ah 400) (hfi : skB fi 5) (hpn : ∀ k, pn k < 2) {f k : Nat} (hf : skOld nx pn f (fi q) = some (some k)) (hw : wh k ≤ 4) (h0 : wh k ≠ 0) :
    Ct K l yX3_oldest wX3_oldest 1 [.ref B, .int (nI q)] hE (jRi (fun r h' => r = nI k ∧ SkS K hE h' B (va_up wh k 0) (skNx nx ah k) (skAh (skNx nx ah k) ah k) wt ht ch pn (skFi nx ah fi k (wh k)) (skLa (skNx nx ah k) ah la k (wh k)) (upd to (wh k) (to (wh k) - wt k)) s0 s1 s2 s3 s4 s5 s6 s7 s8)) jNo := by
  refine st_X3_oldest (ls := [some (.ref B), some (.int (nI q)), none]) F rfl (body := fun M X => ?_)
  have S := T.S
  have loop : ∀ (f : Nat) (o : Option Nat), (∀ b, o = some b → b < 400) → skOld nx pn f o = some (some k) → J M hE 7 [some (.ref B), some (.int (nI q)), some (.int (bI o))] [] := by
    intro f
    induction f with
    | zero => intro o ho hf; cases hf
    | succ f ih =>
      intro o ho hf
      cases o with
      | none => cases hf
      | some j =>
        have hj := ho j rfl
        have hpj := hpn j
        unfold skOld at hf
        refine J.iload2 X dX3_oldest_7 ?_
        refine J.iconst (v := -1) X dX3_oldest_8 (by decide) ?_
        refine J.icmp_eq (tgt := 31) X dX3_oldest_9 (by decide) (fun z => absurd z (bI_m1 (by omega))) (fun _ => ?_)
        refine J.aload0 X dX3_oldest_12 ?_
        refine J.getf X dX3_oldest_13 fl_X3_30_X3 (S.o) rfl ?_
        refine J.iload2 X dX3_oldest_16 ?_
        refine J.zald X dX3_oldest_17 (S.r_pn) (rfl) (by omega) ?_
        refine J.if_eqN (tgt := 31) X dX3_oldest_18 (by decide) (by omega) (fun c1 => ?_) (fun c1 => ?_)
        · skip
          rw [if_pos c1] at hf
          cases hf
          refine J.iload2 X dX3_oldest_31 ?_
          refine J.iconst (v := -1) X dX3_oldest_32 (by decide) ?_
          refine J.icmp_eq (tgt := 42) X dX3_oldest_33 (by decide) (fun z => absurd z (bI_m1 (by omega))) (fun _ => ?_)
          refine J.aload0 X dX3_oldest_36 ?_
          refine J.iload2 X dX3_oldest_37 ?_
          refine J.callVi X dX3_oldest_38 lk_X3_150_X3 ce_X3_loses (sk_loses F S.1 hj hw hn ha h0) (by decide) rfl (S.o) rfl (fun r h' z _ => ?_)
          refine J.pop X dX3_oldest_41 ?_
          refine J.iload2 X dX3_oldest_42 ?_
          refine J.zreturn X dX3_oldest_43 (rfl) (jRi.of ?_)
          exact ⟨rfl, z.2⟩
        · skip
          rw [if_neg c1] at hf
          refine J.aload0 X dX3_oldest_21 ?_
          refine J.getf X dX3_oldest_22 fl_X3_15_X3 (S.o) rfl ?_
          refine J.iload2 X dX3_oldest_25 ?_
          refine J.iald X dX3_oldest_26 (S.r_nx) (rfl) (by omega) ?_
          refine J.istore2 X dX3_oldest_27 ?_
          refine J.goto (tgt := 7) X dX3_oldest_28 (by decide) ?_
          exact ih _ (fun c hc => hn j hj c hc) hf
  refine J.aload0 X dX3_oldest_0 ?_
  refine J.getf X dX3_oldest_1 fl_X3_34_X3 (S.o) rfl ?_
  refine J.iload1 X dX3_oldest_4 ?_
  refine J.iald X dX3_oldest_5 (S.r_fi) (rfl) (by omega) ?_
  refine J.istore2 X dX3_oldest_6 ?_
  exact loop f _ (fun b hb => hfi q (by omega) b hb) hf
