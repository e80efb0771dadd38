/-! a Sketch: its lists in rows, at the rows' level -/
/-- an entry that is a key, if it is one -/
def skB (f : Nat → Option Nat) (n : Nat) : Prop := ∀ i, i < n → ∀ b, f i = some b → b < 400
theorem sk_adds {K : JK} {l : Launch} {hE : JIH} {B : Nat} {wh : Nat → Nat} {nx : Nat → Option Nat} {ah : Nat → Option Nat} {wt : Nat → Int32} {ht : Nat → Int32} {ch : Nat → Int32} {pn : Nat → Nat} {fi : Nat → Option Nat} {la : Nat → Option Nat} {to : Nat → Int32} {s0 s1 s2 s3 s4 s5 s6 s7 s8 : Int32} (F : JF K) (T : SkR K hE B wh nx ah wt ht ch pn fi la to s0 s1 s2 s3 s4 s5 s6 s7 s8) {k q : Nat} (hk : k < 400) (hq : q ≤ 4) (hla : skB la 5) :
    Ct K l yX3_adds wX3_adds 0 [.ref B, .int (nI k), .int (nI q)] hE (jRv (fun h' => SkS K hE h' B (va_up wh k q) ((match la q with | none => va_up nx k none | some b => va_up (va_up nx k none) b (some k))) (va_up ah k (la q)) wt ht ch pn ((match la q with | none => va_up fi q (some k) | some _ => fi)) (va_up la q (some k)) (upd to q (to q + wt k)) s0 s1 s2 s3 s4 s5 s6 s7 s8)) jNo := by
  refine st_X3_adds (ls := [some (.ref B), some (.int (nI k)), some (.int (nI q))]) F rfl (body := fun M X => ?_)
  have S := T.S
  refine J.aload0 X dX3_adds_0 ?_
  refine J.getf X dX3_adds_1 fl_X3_11_X3 (S.o) rfl ?_
  refine J.iload1 X dX3_adds_4 ?_
  refine J.iload2 X dX3_adds_5 ?_
  refine J.sk_wh X dX3_adds_6 S (rfl) (by omega) (fun h S => ?_)
  refine J.aload0 X dX3_adds_7 ?_
  refine J.getf X dX3_adds_8 fl_X3_15_X3 (S.o) rfl ?_
  refine J.iload1 X dX3_adds_11 ?_
  refine J.iconst (v := -1) X dX3_adds_12 (by decide) ?_
  refine J.sk_nxM X dX3_adds_13 S (rfl) (by omega) (fun h S => ?_)
  refine J.aload0 X dX3_adds_14 ?_
  refine J.getf X dX3_adds_15 fl_X3_18_X3 (S.o) rfl ?_
  refine J.at (pc' := 18) rfl ?_
  refine J.iload1 X dX3_adds_18 ?_
  refine J.aload0 X dX3_adds_19 ?_
  refine J.getf X dX3_adds_20 fl_X3_37_X3 (S.o) rfl ?_
  refine J.iload2 X dX3_adds_23 ?_
  refine J.iald X dX3_adds_24 (S.r_la) (rfl) (by omega) ?_
  refine J.sk_ah X dX3_adds_25 S (rfl) (by omega) (fun h S => ?_)
  refine J.aload0 X dX3_adds_26 ?_
  refine J.getf X dX3_adds_27 fl_X3_37_X3 (S.o) rfl ?_
  refine J.iload2 X dX3_adds_30 ?_
  refine J.iald X dX3_adds_31 (S.r_la) (rfl) (by omega) ?_
  cases hb : la q with
  | none =>
    refine J.topi (y := -1) rfl ?_
    refine J.iconst (v := -1) X dX3_adds_32 (by decide) ?_
    refine J.icmp_ne (tgt := 46) X dX3_adds_33 (by decide) (fun q9 => absurd q9 (by decide)) (fun _ => ?_)
    refine J.aload0 X dX3_adds_36 ?_
    refine J.getf X dX3_adds_37 fl_X3_34_X3 (S.o) rfl ?_
    refine J.iload2 X dX3_adds_40 ?_
    refine J.iload1 X dX3_adds_41 ?_
    refine J.sk_fiN X dX3_adds_42 S (rfl) (by omega) (fun h S => ?_)
    refine J.goto (tgt := 58) X dX3_adds_43 (by decide) ?_
    refine J.aload0 X dX3_adds_58 ?_
    refine J.getf X dX3_adds_59 fl_X3_37_X3 (S.o) rfl ?_
    refine J.iload2 X dX3_adds_62 ?_
    refine J.iload1 X dX3_adds_63 ?_
    refine J.sk_laN X dX3_adds_64 S (rfl) (by omega) (fun h S => ?_)
    refine J.aload0 X dX3_adds_65 ?_
    refine J.at (pc' := 66) rfl ?_
    refine J.getf X dX3_adds_66 fl_X3_40_X3 (S.o) rfl ?_
    refine J.iload2 X dX3_adds_69 ?_
    refine J.dup2 X dX3_adds_70 ?_
    refine J.iald X dX3_adds_71 (S.r_to) (rfl) (by omega) ?_
    refine J.aload0 X dX3_adds_72 ?_
    refine J.getf X dX3_adds_73 fl_X3_21_X3 (S.o) rfl ?_
    refine J.iload1 X dX3_adds_76 ?_
    refine J.iald X dX3_adds_77 (S.r_wt) (rfl) (by omega) ?_
    refine J.iadd X dX3_adds_78 ?_
    refine J.sk_to X dX3_adds_79 S (rfl) (by omega) (fun h S => ?_)
    refine J.vreturn X dX3_adds_80 (jRv.of ?_)
    rw [hb] at S ⊢
    exact S
  | some b =>
    have hb4 := hla q (by omega) b hb
    refine J.topi (y := nI (b)) (rfl) ?_
    refine J.iconst (v := -1) X dX3_adds_32 (by decide) ?_
    refine J.icmp_ne (tgt := 46) X dX3_adds_33 (by decide) (fun _ => ?_) (fun c => absurd c (fun z => absurd (show nI b < 0 from z ▸ (by decide)) (nI_pos (by omega))))
    refine J.aload0 X dX3_adds_46 ?_
    refine J.getf X dX3_adds_47 fl_X3_15_X3 (S.o) rfl ?_
    refine J.aload0 X dX3_adds_50 ?_
    refine J.getf X dX3_adds_51 fl_X3_37_X3 (S.o) rfl ?_
    refine J.iload2 X dX3_adds_54 ?_
    refine J.iald X dX3_adds_55 (S.r_la) (rfl) (by omega) ?_
    refine J.topi (y := nI (b)) (by rw [hb]; rfl) ?_
    refine J.iload1 X dX3_adds_56 ?_
    refine J.sk_nxN X dX3_adds_57 S (rfl) (by omega) (fun h S => ?_)
    refine J.aload0 X dX3_adds_58 ?_
    refine J.getf X dX3_adds_59 fl_X3_37_X3 (S.o) rfl ?_
    refine J.iload2 X dX3_adds_62 ?_
    refine J.iload1 X dX3_adds_63 ?_
    refine J.sk_laN X dX3_adds_64 S (rfl) (by omega) (fun h S => ?_)
    refine J.aload0 X dX3_adds_65 ?_
    refine J.getf X dX3_adds_66 fl_X3_40_X3 (S.o) rfl ?_
    refine J.iload2 X dX3_adds_69 ?_
    refine J.dup2 X dX3_adds_70 ?_
    refine J.iald X dX3_adds_71 (S.r_to) (rfl) (by omega) ?_
    refine J.at (pc' := 72) rfl ?_
    refine J.aload0 X dX3_adds_72 ?_
    refine J.getf X dX3_adds_73 fl_X3_21_X3 (S.o) rfl ?_
    refine J.iload1 X dX3_adds_76 ?_
    refine J.iald X dX3_adds_77 (S.r_wt) (rfl) (by omega) ?_
    refine J.iadd X dX3_adds_78 ?_
    refine J.sk_to X dX3_adds_79 S (rfl) (by omega) (fun h S => ?_)
    refine J.vreturn X dX3_adds_80 (jRv.of ?_)
    rw [hb] at S ⊢
    exact S
theorem sk_comes {K : JK} {l : Launch} {hE : JIH} {B : Nat} {wh : Nat → Nat} {nx : Nat → Option Nat} {ah : Nat → Option Nat} {wt : Nat → Int32} {ht : Nat → Int32} {ch : Nat → Int32} {pn : Nat → Nat} {fi : Nat → Option Nat} {la : Nat → Option Nat} {to : Nat → Int32} {s0 s1 s2 s3 s4 s5 s6 s7 s8 : Int32} (F : JF K) (T : SkR K hE B wh nx ah wt ht ch pn fi la to s0 s1 s2 s3 s4 s5 s6 s7 s8) {k q : Nat} (hk : k < 400) (hq : q ≤ 4) (hla : skB la 5) (x c : Int32) :
    Ct K l yX3_comes wX3_comes 1 [.ref B, .int (nI k), .int x, .int c, .int (nI q)] hE (jRv (fun h' => SkS K hE h' B (va_up wh k q) ((match la q with | none => va_up nx k none | some b => va_up (va_up nx k none) b (some k))) (va_up ah k (la q)) (upd wt k x) (upd ht k (nI 0)) (upd ch k c) (va_up pn k 0) ((match la q with | none => va_up fi q (some k) | some _ => fi)) (va_up la q (some k)) (upd to q (to q + upd wt k x k)) s0 s1 s2 s3 s4 s5 s6 s7 s8)) jNo := by
  refine st_X3_comes (ls := [some (.ref B), some (.int (nI k)), some (.int x), some (.int c), some (.int (nI q))]) F rfl (body := fun M X => ?_)
  have S := T.S
  refine J.aload0 X dX3_comes_0 ?_
  refine J.getf X dX3_comes_1 fl_X3_21_X3 (S.o) rfl ?_
  refine J.iload1 X dX3_comes_4 ?_
  refine J.iload2 X dX3_comes_5 ?_
  refine J.sk_wt X dX3_comes_6 S (rfl) (by omega) (fun h S => ?_)
  refine J.aload0 X dX3_comes_7 ?_
  refine J.getf X dX3_comes_8 fl_X3_27_X3 (S.o) rfl ?_
  refine J.iload1 X dX3_comes_11 ?_
  refine J.iload3 X dX3_comes_12 ?_
  refine J.sk_ch X dX3_comes_13 S (rfl) (by omega) (fun h S => ?_)
  refine J.aload0 X dX3_comes_14 ?_
  refine J.getf X dX3_comes_15 fl_X3_24_X3 (S.o) rfl ?_
  refine J.at (pc' := 18) rfl ?_
  refine J.iload1 X dX3_comes_18 ?_
  refine J.iconst (v := nI 0) X dX3_comes_19 (by decide) ?_
  refine J.sk_ht X dX3_comes_20 S (rfl) (by omega) (fun h S => ?_)
  refine J.aload0 X dX3_comes_21 ?_
  refine J.getf X dX3_comes_22 fl_X3_30_X3 (S.o) rfl ?_
  refine J.iload1 X dX3_comes_25 ?_
  refine J.iconst (v := nI 0) X dX3_comes_26 (by decide) ?_
  refine J.sk_pn X dX3_comes_27 S (by omega) (rfl) (by omega) (fun h S => ?_)
  refine J.aload0 X dX3_comes_28 ?_
  refine J.iload1 X dX3_comes_29 ?_
  refine J.iload4 X dX3_comes_30 ?_
  refine J.callVv X dX3_comes_32 lk_X3_146_X3 ce_X3_adds (sk_adds F S.1 hk hq hla) (by decide) rfl (S.o) rfl (fun h' S' _ => ?_)
  replace S := S.tr S'
  refine J.vreturn X dX3_comes_35 (jRv.of ?_)
  exact S
theorem sk_both {K : JK} {l : Launch} {hE : JIH} {B : Nat} {wh : Nat → Nat} {nx : Nat → Option Nat} {ah : Nat → Option Nat} {wt : Nat → Int32} {ht : Nat → Int32} {ch : Nat → Int32} {pn : Nat → Nat} {fi : Nat → Option Nat} {la : Nat → Option Nat} {to : Nat → Int32} {s0 s1 s2 s3 s4 s5 s6 s7 s8 : Int32} (F : JF K) (T : SkR K hE B wh nx ah wt ht ch pn fi la to s0 s1 s2 s3 s4 s5 s6 s7 s8) :
    Ct K l yX3_both wX3_both 0 [.ref B] hE (jRi (fun r h' => r = to 1 + to 2 ∧ hE = h')) jNo := by
  refine st_X3_both (ls := [some (.ref B)]) F rfl (body := fun M X => ?_)
  have S := T.S
  refine J.aload0 X dX3_both_0 ?_
  refine J.getf X dX3_both_1 fl_X3_40_X3 (S.o) rfl ?_
  refine J.iconst (v := nI 1) X dX3_both_4 (by decide) ?_
  refine J.iald X dX3_both_5 (S.r_to) (rfl) (by omega) ?_
  refine J.aload0 X dX3_both_6 ?_
  refine J.getf X dX3_both_7 fl_X3_40_X3 (S.o) rfl ?_
  refine J.iconst (v := nI 2) X dX3_both_10 (by decide) ?_
  refine J.iald X dX3_both_11 (S.r_to) (rfl) (by omega) ?_
  refine J.iadd X dX3_both_12 ?_
  refine J.zreturn X dX3_both_13 (rfl) (jRi.of ?_)
  exact ⟨rfl, rfl⟩
theorem sk_isThing {K : JK} {l : Launch} {hE : JIH} {B : Nat} {wh : Nat → Nat} {nx : Nat → Option Nat} {ah : Nat → Option Nat} {wt : Nat → Int32} {ht : Nat → Int32} {ch : Nat → Int32} {pn : Nat → Nat} {fi : Nat → Option Nat} {la : Nat → Option Nat} {to : Nat → Int32} {s0 s1 s2 s3 s4 s5 s6 s7 s8 : Int32} (F : JF K) (T : SkR K hE B wh nx ah wt ht ch pn fi la to s0 s1 s2 s3 s4 s5 s6 s7 s8) {k : Nat} (hk : k < 400) (hw : wh k ≤ 4) :
    Ct K l yX3_isThing wX3_isThing 0 [.ref B, .int (nI k)] hE (jRi (fun r h' => r = jB (wh k = 1 ∨ wh k = 2) ∧ hE = h')) jNo := by
  refine st_X3_isThing (ls := [some (.ref B), some (.int (nI k))]) F rfl (body := fun M X => ?_)
  have S := T.S
  refine J.aload0 X dX3_isThing_0 ?_
  refine J.getf X dX3_isThing_1 fl_X3_11_X3 (S.o) rfl ?_
  refine J.iload1 X dX3_isThing_4 ?_
  refine J.iald X dX3_isThing_5 (S.r_wh) (rfl) (by omega) ?_
  refine J.iconst (v := nI 1) X dX3_isThing_6 (by decide) ?_
  refine J.icmp_eqN (tgt := 20) X dX3_isThing_7 (by decide) (by omega) (by omega) (fun c1 => ?_) (fun c1 => ?_)
  · skip
    refine J.iconst (v := nI 1) X dX3_isThing_20 (by decide) ?_
    refine J.goto (tgt := 25) X dX3_isThing_21 (by decide) ?_
    refine J.zreturn X dX3_isThing_25 (rfl) (jRi.of ?_)
    exact ⟨jB_1 (Or.inl c1), rfl⟩
  · skip
    refine J.aload0 X dX3_isThing_10 ?_
    refine J.getf X dX3_isThing_11 fl_X3_11_X3 (S.o) rfl ?_
    refine J.iload1 X dX3_isThing_14 ?_
    refine J.iald X dX3_isThing_15 (S.r_wh) (rfl) (by omega) ?_
    refine J.iconst (v := nI 2) X dX3_isThing_16 (by decide) ?_
    refine J.icmp_neN (tgt := 24) X dX3_isThing_17 (by decide) (by omega) (by omega) (fun c2 => ?_) (fun c2 => ?_)
    · skip
      refine J.iconst (v := nI 0) X dX3_isThing_24 (by decide) ?_
      refine J.zreturn X dX3_isThing_25 (rfl) (jRi.of ?_)
      exact ⟨jB_0 (fun z => z.elim c1 c2), rfl⟩
    · skip
      refine J.iconst (v := nI 1) X dX3_isThing_20 (by decide) ?_
      refine J.goto (tgt := 25) X dX3_isThing_21 (by decide) ?_
      refine J.zreturn X dX3_isThing_25 (rfl) (jRi.of ?_)
      exact ⟨jB_1 (Or.inr c2), rfl⟩
