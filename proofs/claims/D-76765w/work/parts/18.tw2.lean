/-! the model: queues -/
def tshift (c : Nat) (g : Nat → Int32) : Nat → Int32 := fun a => if 3216 + c < a ∧ a ≤ 3235 then g (a - 1) else g a
theorem tshift_19 (g : Nat → Int32) : tshift 19 g = g := by
  funext a; unfold tshift; rw [if_neg (by omega)]
theorem tshift_s (c : Nat) (g : Nat → Int32) (hc : c + 1 ≤ 19) : upd (tshift (c + 1) g) (3216 + (c + 1)) (tshift (c + 1) g (3216 + (c + 1) - 1)) = tshift c g := by
  funext a
  rw [upd_at]
  unfold tshift
  by_cases e : a = 3216 + (c + 1)
  · rw [if_pos e, if_neg (by omega), if_pos (by omega), e]
  · rw [if_neg e]
    by_cases e2 : 3216 + (c + 1) < a ∧ a ≤ 3235
    · rw [if_pos e2, if_pos (by omega)]
    · rw [if_neg e2, if_neg (by omega)]
def twentG (g : Nat → Int32) (k q : Nat) : Nat → Int32 :=
  let g1 := upd (tgoes g k q) (2400 + k) (nI 0)
  let g2 := upd (tshift 0 g1) 3216 (nI k)
  upd g2 3214 (g2 3214 + nI 1)
def tgo (go : Nat → Int32) (n k : Nat) : Nat → Int32 := if n < 400 then upd go n (nI k) else go
def tgn (n : Nat) : Nat := if n < 400 then n + 1 else n
theorem tgn_le {n : Nat} (h : n ≤ 400) : tgn n ≤ 400 := by unfold tgn; split <;> omega
theorem WG.shift {g : Nat → Int32} (h : WG g) (c : Nat) : WG (tshift c g) := h.same fun k hk => by unfold tshift; rw [if_neg (by omega)]
theorem WG.went {g : Nat → Int32} (h : WG g) {k q : Nat} (hk : k < 400) (hq : q ≤ 4) : WG (twentG g k q) := ((((h.goes hk hq).upd (by omega) _).shift 0).upd (by omega) _).upd (by omega) _
theorem tw_went {K : JK} {l : Launch} {hE : JIH} {A : Nat} {g sv kp go tx ac ky wt mn ts tz : Nat → Int32} {tp : Nat → Nat → Int64} {mv : Nat → Int64} {i0 i2 i3 i4 i5 : Int32} (F : JF K) {n : Nat} (T : TwR K hE A g sv kp go tx ac ky wt mn ts tz tp mv i0 (nI n) i2 i3 i4 i5) (hw : WG g) (hn : n ≤ 400) {k q : Nat} (hk : k < 400) (hq : q ≤ 4) :
    Ct K l yX5_went wX5_went 1 [.ref A, .int (nI k), .int (nI q)] hE (jRv (fun h' => TwS K hE h' A (twentG g k q) sv kp (tgo go n k) tx ac ky wt mn ts tz tp mv i0 (nI (tgn n)) i2 i3 i4 i5)) jNo := by
  refine st_X5_went (ls := [some (.ref A), some (.int (nI k)), some (.int (nI q)), none]) F rfl (body := fun M X => ?_)
  have S := T.S
  refine J.aload0 X dX5_went_0 ?_
  refine J.iload1 X dX5_went_1 ?_
  refine J.iload2 X dX5_went_2 ?_
  refine J.callVv X dX5_went_3 lk_X5_58_X5 ce_X5_goes (tw_goes F S.1 hw hk hq) (by decide) rfl (S.o) rfl (fun h' S' _ => ?_)
  replace S := S.tr S'
  clear S'
  refine J.aload0 X dX5_went_6 ?_
  refine J.getf X dX5_went_7 fl_X5_11_X5 (S.o) rfl ?_
  refine J.sipush (v := nI 2400) X dX5_went_10 (by decide) ?_
  refine J.iload1 X dX5_went_13 ?_
  refine J.iaddN X dX5_went_14 ?_
  refine J.iconst (v := nI 0) X dX5_went_15 (by decide) ?_
  refine J.tw_g X dX5_went_16 S (rfl) (by omega) (fun h S => ?_)
  refine J.bipush (v := nI 19) X dX5_went_17 (by decide) ?_
  refine J.istore3 X dX5_went_19 ?_
  generalize hg1 : upd (tgoes g k q) (2400 + k) (nI 0) = g1 at S
  rw [← tshift_19 g1] at S
  have loop : ∀ c, c ≤ 19 → ∀ h1 : JIH, TwS K hE h1 A (tshift c g1) sv kp go tx ac ky wt mn ts tz tp mv i0 (nI n) i2 i3 i4 i5 → J M h1 20 [some (.ref A), some (.int (nI k)), some (.int (nI q)), some (.int (nI c))] [] := by
    intro c
    induction c with
    | zero =>
      intro hc h1 S
      refine J.iload3 X dX5_went_20 ?_
      refine J.if_leN (tgt := 52) X dX5_went_21 (by decide) (by omega) (fun c1 => ?_) (fun c1 => ?_)
      · skip
        refine J.aload0 X dX5_went_52 ?_
        refine J.getf X dX5_went_53 fl_X5_11_X5 (S.o) rfl ?_
        refine J.sipush (v := nI 3216) X dX5_went_56 (by decide) ?_
        refine J.iload1 X dX5_went_59 ?_
        refine J.tw_g X dX5_went_60 S (rfl) (by omega) (fun h S => ?_)
        refine J.aload0 X dX5_went_61 ?_
        refine J.getf X dX5_went_62 fl_X5_11_X5 (S.o) rfl ?_
        refine J.sipush (v := nI 3214) X dX5_went_65 (by decide) ?_
        refine J.dup2 X dX5_went_68 ?_
        refine J.iald X dX5_went_69 (S.r_g) (rfl) (by omega) ?_
        refine J.iconst (v := nI 1) X dX5_went_70 (by decide) ?_
        refine J.iadd X dX5_went_71 ?_
        refine J.at (pc' := 72) rfl ?_
        refine J.tw_g X dX5_went_72 S (rfl) (by omega) (fun h S => ?_)
        refine J.aload0 X dX5_went_73 ?_
        refine J.getf X dX5_went_74 fl_X5_62_X5 (S.o) rfl ?_
        refine J.sipush (v := nI 400) X dX5_went_77 (by decide) ?_
        refine J.icmp_geN (tgt := 100) X dX5_went_80 (by decide) (by omega) (by omega) (fun c2 => ?_) (fun c2 => ?_)
        · skip
          refine J.vreturn X dX5_went_100 (jRv.of ?_)
          unfold twentG tgo tgn
          rw [hg1, if_neg (by omega), if_neg (by omega)]
          exact S
        · skip
          refine J.aload0 X dX5_went_83 ?_
          refine J.getf X dX5_went_84 fl_X5_21_X5 (S.o) rfl ?_
          refine J.aload0 X dX5_went_87 ?_
          refine J.dup X dX5_went_88 ?_
          refine J.getf X dX5_went_89 fl_X5_62_X5 (S.o) rfl ?_
          refine J.dup_x1 X dX5_went_92 ?_
          refine J.iconst (v := nI 1) X dX5_went_93 (by decide) ?_
          refine J.iaddN X dX5_went_94 ?_
          refine J.tw_i1 X dX5_went_95 (pl_X5_62_X5 _) S (rfl) (rfl) (fun h S => ?_)
          refine J.iload1 X dX5_went_98 ?_
          refine J.tw_go X dX5_went_99 S (rfl) (by omega) (fun h S => ?_)
          refine J.vreturn X dX5_went_100 (jRv.of ?_)
          unfold twentG tgo tgn
          rw [hg1, if_pos c2, if_pos c2]
          exact S
      · skip
        exact absurd c1 (by omega)
    | succ c ih =>
      intro hc h1 S
      refine J.iload3 X dX5_went_20 ?_
      refine J.if_leN (tgt := 52) X dX5_went_21 (by decide) (by omega) (fun c1 => ?_) (fun c1 => ?_)
      · skip
        exact absurd c1 (by omega)
      · skip
        refine J.aload0 X dX5_went_24 ?_
        refine J.getf X dX5_went_25 fl_X5_11_X5 (S.o) rfl ?_
        refine J.sipush (v := nI 3216) X dX5_went_28 (by decide) ?_
        refine J.iload3 X dX5_went_31 ?_
        refine J.iaddN X dX5_went_32 ?_
        refine J.aload0 X dX5_went_33 ?_
        refine J.getf X dX5_went_34 fl_X5_11_X5 (S.o) rfl ?_
        refine J.sipush (v := nI 3216) X dX5_went_37 (by decide) ?_
        refine J.iload3 X dX5_went_40 ?_
        refine J.iaddN X dX5_went_41 ?_
        refine J.iconst (v := nI 1) X dX5_went_42 (by decide) ?_
        refine J.isubN X dX5_went_43 (by omega) ?_
        refine J.at (pc' := 44) rfl ?_
        refine J.iald X dX5_went_44 (S.r_g) (rfl) (by omega) ?_
        refine J.tw_g X dX5_went_45 S (rfl) (by omega) (fun h S => ?_)
        refine J.iinc3 (d := -1) X dX5_went_46 (by decide) ?_
        rw [pk_m1]
        rw [tshift_s c g1 hc] at S
        refine J.goto (tgt := 20) X dX5_went_49 (by decide) ?_
        exact ih (by omega) _ S
  exact loop 19 (by omega) _ S
def tsinks : Nat → (Nat → Int32) → Option (Nat → Int32)
  | 0, _ => none
  | f + 1, g => if g 3201 < g 3206 then (match ob g 2 true 400 with
    | none => some g
    | some k => tsinks f (tgoes (upd g (1600 + k) (nI 0)) k 1)) else some g
theorem tw_sinks {K : JK} {l : Launch} {hE : JIH} {A : Nat} {g sv kp go tx ac ky wt mn ts tz : Nat → Int32} {tp : Nat → Nat → Int64} {mv : Nat → Int64} {i0 i1 i2 i3 i4 i5 : Int32} (F : JF K) (T : TwR K hE A g sv kp go tx ac ky wt mn ts tz tp mv i0 i1 i2 i3 i4 i5) (hw : WG g) {f : Nat} {g' : Nat → Int32} (hf : tsinks f g = some g') :
    Ct K l yX5_sinks wX5_sinks 1 [.ref A] hE (jRv (fun h' => TwS K hE h' A (g') sv kp go tx ac ky wt mn ts tz tp mv i0 i1 i2 i3 i4 i5)) jNo := by
  refine st_X5_sinks (ls := [some (.ref A), none]) F rfl (body := fun M X => ?_)
  have loop : ∀ (f : Nat) (g : Nat → Int32) (h1 : JIH) (x : Option Value), TwS K hE h1 A g sv kp go tx ac ky wt mn ts tz tp mv i0 i1 i2 i3 i4 i5 → WG g → tsinks f g = some g' → J M h1 0 [some (.ref A), x] [] := by
    intro f
    induction f with
    | zero => intro g h1 x S hw hf; cases hf
    | succ f ih =>
      intro g h1 x S hw hf
      unfold tsinks at hf
      refine J.aload0 X dX5_sinks_0 ?_
      refine J.getf X dX5_sinks_1 fl_X5_11_X5 (S.o) rfl ?_
      refine J.sipush (v := nI 3206) X dX5_sinks_4 (by decide) ?_
      refine J.iald X dX5_sinks_7 (S.r_g) (rfl) (by omega) ?_
      refine J.aload0 X dX5_sinks_8 ?_
      refine J.getf X dX5_sinks_9 fl_X5_11_X5 (S.o) rfl ?_
      refine J.sipush (v := nI 3201) X dX5_sinks_12 (by decide) ?_
      refine J.iald X dX5_sinks_15 (S.r_g) (rfl) (by omega) ?_
      refine J.icmp_le (tgt := 51) X dX5_sinks_16 (by decide) (fun c1 => ?_) (fun c1 => ?_)
      · skip
        rw [if_neg (Int32.not_lt.mpr c1)] at hf
        cases hf
        refine J.vreturn X dX5_sinks_51 (jRv.of ?_)
        exact S
      · skip
        rw [if_pos (Int32.not_le.mp c1)] at hf
        refine J.aload0 X dX5_sinks_19 ?_
        refine J.iconst (v := nI 2) X dX5_sinks_20 (by decide) ?_
        refine J.iconst (v := nI 1) X dX5_sinks_21 (by decide) ?_
        refine J.callVi X dX5_sinks_22 lk_X5_66_X5 ce_X5_oldest (tw_oldest F S.1 hw (by omega) true) (by decide) rfl (S.o) rfl (fun r h' e _ => ?_)
        obtain ⟨rfl, rfl⟩ := e
        cases hb : ob g 2 true 400 with
        | none =>
          rw [hb] at hf
          cases hf
          refine J.istore1 X dX5_sinks_25 ?_
          refine J.iload1 X dX5_sinks_26 ?_
          refine J.if_ge (tgt := 31) X dX5_sinks_27 (by decide) (fun c2 => ?_) (fun c2 => ?_)
          · skip
            exact absurd c2 (by decide)
          · skip
            refine J.vreturn X dX5_sinks_30 (jRv.of ?_)
            exact S
        | some k =>
          rw [hb] at hf
          have hk := (ob_lt hb).1
          refine J.istore1 X dX5_sinks_25 ?_
          refine J.iload1 X dX5_sinks_26 ?_
          refine J.if_geN (tgt := 31) X dX5_sinks_27 (by decide) (by omega) ?_
          refine J.aload0 X dX5_sinks_31 ?_
          refine J.getf X dX5_sinks_32 fl_X5_11_X5 (S.o) rfl ?_
          refine J.sipush (v := nI 1600) X dX5_sinks_35 (by decide) ?_
          refine J.iload1 X dX5_sinks_38 ?_
          refine J.iaddN X dX5_sinks_39 ?_
          refine J.iconst (v := nI 0) X dX5_sinks_40 (by decide) ?_
          refine J.tw_g X dX5_sinks_41 S (rfl) (by omega) (fun h S => ?_)
          refine J.aload0 X dX5_sinks_42 ?_
          refine J.iload1 X dX5_sinks_43 ?_
          refine J.iconst (v := nI 1) X dX5_sinks_44 (by decide) ?_
          refine J.callVv X dX5_sinks_45 lk_X5_58_X5 ce_X5_goes (tw_goes F S.1 (hw.upd (by omega) _) hk (by omega)) (by decide) rfl (S.o) rfl (fun h' S' _ => ?_)
          replace S := S.tr S'
          refine J.goto (tgt := 0) X dX5_sinks_48 (by decide) ?_
          exact ih _ _ _ S ((hw.upd (by omega) _).goes hk (by omega)) hf
  exact loop f g hE none T.S hw hf
def tlets : Nat → (Nat → Int32) → (Nat → Int32) → Nat → Option ((Nat → Int32) × (Nat → Int32) × Nat)
  | 0, _, _, _ => none
  | f + 1, g, go, n => if g 3200 < g 3205 + g 3206 then (match ob g 1 true 400 with
    | some k => if 0 < g (2000 + k) then tlets f (tgoes (upd g (2000 + k) (g (2000 + k) - nI 1)) k 1) go n else tlets f (twentG g k 3) (tgo go n k) (tgn n)
    | none => match ob g 2 true 400 with
      | some k => tlets f (twentG g k 4) (tgo go n k) (tgn n)
      | none => some (g, go, n)) else some (g, go, n)
theorem tw_lets {K : JK} {l : Launch} {hE : JIH} {A : Nat} {g sv kp go tx ac ky wt mn ts tz : Nat → Int32} {tp : Nat → Nat → Int64} {mv : Nat → Int64} {i0 i2 i3 i4 i5 : Int32} (F : JF K) {n : Nat} (T : TwR K hE A g sv kp go tx ac ky wt mn ts tz tp mv i0 (nI n) i2 i3 i4 i5) (hw : WG g) (hn : n ≤ 400) {f : Nat} {g' go' : Nat → Int32} {n' : Nat} (hf : tlets f g go n = some (g', go', n')) :
    Ct K l yX5_lets wX5_lets 2 [.ref A] hE (jRv (fun h' => TwS K hE h' A (g') sv kp (go') tx ac ky wt mn ts tz tp mv i0 (nI n') i2 i3 i4 i5)) jNo := by
  refine st_X5_lets (ls := [some (.ref A), none, none]) F rfl (body := fun M X => ?_)
  have loop : ∀ (f : Nat) (g go : Nat → Int32) (n : Nat) (h1 : JIH) (x y : Option Value), TwS K hE h1 A g sv kp go tx ac ky wt mn ts tz tp mv i0 (nI n) i2 i3 i4 i5 → WG g → n ≤ 400 → tlets f g go n = some (g', go', n') → J M h1 0 [some (.ref A), x, y] [] := by
    intro f
    induction f with
    | zero => intro g go n h1 x y S hw hn hf; cases hf
    | succ f ih =>
      intro g go n h1 x y S hw hn hf
      unfold tlets at hf
      refine J.aload0 X dX5_lets_0 ?_
      refine J.getf X dX5_lets_1 fl_X5_11_X5 (S.o) rfl ?_
      refine J.sipush (v := nI 3205) X dX5_lets_4 (by decide) ?_
      refine J.iald X dX5_lets_7 (S.r_g) (rfl) (by omega) ?_
      refine J.aload0 X dX5_lets_8 ?_
      refine J.getf X dX5_lets_9 fl_X5_11_X5 (S.o) rfl ?_
      refine J.sipush (v := nI 3206) X dX5_lets_12 (by decide) ?_
      refine J.iald X dX5_lets_15 (S.r_g) (rfl) (by omega) ?_
      refine J.iadd X dX5_lets_16 ?_
      refine J.aload0 X dX5_lets_17 ?_
      refine J.getf X dX5_lets_18 fl_X5_11_X5 (S.o) rfl ?_
      refine J.sipush (v := nI 3200) X dX5_lets_21 (by decide) ?_
      refine J.at (pc' := 24) rfl ?_
      refine J.iald X dX5_lets_24 (S.r_g) (rfl) (by omega) ?_
      refine J.icmp_le (tgt := 112) X dX5_lets_25 (by decide) (fun c1 => ?_) (fun c1 => ?_)
      · skip
        rw [if_neg (Int32.not_lt.mpr c1)] at hf
        cases hf
        refine J.vreturn X dX5_lets_112 (jRv.of ?_)
        exact S
      · skip
        rw [if_pos (Int32.not_le.mp c1)] at hf
        refine J.aload0 X dX5_lets_28 ?_
        refine J.iconst (v := nI 1) X dX5_lets_29 (by decide) ?_
        refine J.iconst (v := nI 1) X dX5_lets_30 (by decide) ?_
        refine J.callVi X dX5_lets_31 lk_X5_66_X5 ce_X5_oldest (tw_oldest F S.1 hw (by omega) true) (by decide) rfl (S.o) rfl (fun r h' e _ => ?_)
        obtain ⟨rfl, rfl⟩ := e
        refine J.istore1 X dX5_lets_34 ?_
        refine J.aload0 X dX5_lets_35 ?_
        refine J.iconst (v := nI 2) X dX5_lets_36 (by decide) ?_
        refine J.iconst (v := nI 1) X dX5_lets_37 (by decide) ?_
        refine J.callVi X dX5_lets_38 lk_X5_66_X5 ce_X5_oldest (tw_oldest F S.1 hw (by omega) true) (by decide) rfl (S.o) rfl (fun r h' e _ => ?_)
        obtain ⟨rfl, rfl⟩ := e
        refine J.istore2 X dX5_lets_41 ?_
        cases hb : ob g 1 true 400 with
        | none =>
          rw [hb] at hf
          refine J.iload1 X dX5_lets_42 ?_
          refine J.if_lt (tgt := 82) X dX5_lets_43 (by decide) (fun c2 => ?_) (fun c2 => ?_)
          · skip
            refine J.iload1 X dX5_lets_82 ?_
            refine J.if_lt (tgt := 95) X dX5_lets_83 (by decide) (fun c2b => ?_) (fun c2b => ?_)
            · skip
              cases hb2 : ob g 2 true 400 with
              | none =>
                rw [hb2] at hf
                cases hf
                refine J.iload2 X dX5_lets_95 ?_
                refine J.if_lt (tgt := 108) X dX5_lets_96 (by decide) (fun c3 => ?_) (fun c3 => ?_)
                · skip
                  refine J.vreturn X dX5_lets_108 (jRv.of ?_)
                  exact S
                · skip
                  exact absurd (show bI none < 0 by decide) c3
              | some k =>
                rw [hb2] at hf
                have hk := (ob_lt hb2).1
                refine J.iload2 X dX5_lets_95 ?_
                refine J.if_ltN (tgt := 108) X dX5_lets_96 (by decide) (by omega) ?_
                refine J.aload0 X dX5_lets_99 ?_
                refine J.iload2 X dX5_lets_100 ?_
                refine J.iconst (v := nI 4) X dX5_lets_101 (by decide) ?_
                refine J.callVv X dX5_lets_102 lk_X5_70_X5 ce_X5_went (tw_went F S.1 hw hn hk (by omega)) (by decide) rfl (S.o) rfl (fun h' S' _ => ?_)
                replace S := S.tr S'
                refine J.goto (tgt := 109) X dX5_lets_105 (by decide) ?_
                refine J.goto (tgt := 0) X dX5_lets_109 (by decide) ?_
                exact ih _ _ _ _ _ _ S (hw.went hk (by omega)) (tgn_le hn) hf
            · skip
              exact absurd (show bI none < 0 by decide) c2b
          · skip
            exact absurd (show bI none < 0 by decide) c2
        | some k =>
          rw [hb] at hf
          have hk := (ob_lt hb).1
          refine J.iload1 X dX5_lets_42 ?_
          refine J.if_ltN (tgt := 82) X dX5_lets_43 (by decide) (by omega) ?_
          refine J.aload0 X dX5_lets_46 ?_
          refine J.getf X dX5_lets_47 fl_X5_11_X5 (S.o) rfl ?_
          refine J.sipush (v := nI 2000) X dX5_lets_50 (by decide) ?_
          refine J.iload1 X dX5_lets_53 ?_
          refine J.iaddN X dX5_lets_54 ?_
          refine J.iald X dX5_lets_55 (S.r_g) (rfl) (by omega) ?_
          refine J.if_le (tgt := 82) X dX5_lets_56 (by decide) (fun c2 => ?_) (fun c2 => ?_)
          · skip
            replace hf : tlets f (twentG g k 3) (tgo go n k) (tgn n) = some (g', go', n') := by
              rw [← hf]; exact (if_neg (Int32.not_lt.mpr c2)).symm
            refine J.iload1 X dX5_lets_82 ?_
            refine J.if_ltN (tgt := 95) X dX5_lets_83 (by decide) (by omega) ?_
            refine J.aload0 X dX5_lets_86 ?_
            refine J.iload1 X dX5_lets_87 ?_
            refine J.iconst (v := nI 3) X dX5_lets_88 (by decide) ?_
            refine J.callVv X dX5_lets_89 lk_X5_70_X5 ce_X5_went (tw_went F S.1 hw hn hk (by omega)) (by decide) rfl (S.o) rfl (fun h' S' _ => ?_)
            replace S := S.tr S'
            refine J.goto (tgt := 109) X dX5_lets_92 (by decide) ?_
            refine J.goto (tgt := 0) X dX5_lets_109 (by decide) ?_
            exact ih _ _ _ _ _ _ S (hw.went hk (by omega)) (tgn_le hn) hf
          · skip
            replace hf : tlets f (tgoes (upd g (2000 + k) (g (2000 + k) - nI 1)) k 1) go n = some (g', go', n') := by
              rw [← hf]; exact (if_pos (Int32.not_le.mp c2)).symm
            refine J.aload0 X dX5_lets_59 ?_
            refine J.getf X dX5_lets_60 fl_X5_11_X5 (S.o) rfl ?_
            refine J.sipush (v := nI 2000) X dX5_lets_63 (by decide) ?_
            refine J.iload1 X dX5_lets_66 ?_
            refine J.iaddN X dX5_lets_67 ?_
            refine J.dup2 X dX5_lets_68 ?_
            refine J.iald X dX5_lets_69 (S.r_g) (rfl) (by omega) ?_
            refine J.iconst (v := nI 1) X dX5_lets_70 (by decide) ?_
            refine J.isub X dX5_lets_71 ?_
            refine J.tw_g X dX5_lets_72 S (rfl) (by omega) (fun h S => ?_)
            refine J.aload0 X dX5_lets_73 ?_
            refine J.iload1 X dX5_lets_74 ?_
            refine J.at (pc' := 75) rfl ?_
            refine J.iconst (v := nI 1) X dX5_lets_75 (by decide) ?_
            refine J.callVv X dX5_lets_76 lk_X5_58_X5 ce_X5_goes (tw_goes F S.1 (hw.upd (by omega) _) hk (by omega)) (by decide) rfl (S.o) rfl (fun h' S' _ => ?_)
            replace S := S.tr S'
            refine J.goto (tgt := 109) X dX5_lets_79 (by decide) ?_
            refine J.goto (tgt := 0) X dX5_lets_109 (by decide) ?_
            exact ih _ _ _ _ _ _ S ((hw.upd (by omega) _).goes hk (by omega)) hn hf
  exact loop f g go n hE none none T.S hw hn hf
def tfade (q : Nat) : Nat → (Nat → Int32) → Option (Nat → Int32)
  | 0, _ => none
  | f + 1, g => if g 3200 < g (3204 + q) then (match ob g q false 400 with
    | none => none
    | some k => tfade q f (tgoes g k 0)) else some g
theorem WG.sinks : ∀ {f : Nat} {g g' : Nat → Int32}, WG g → tsinks f g = some g' → WG g'
  | 0, _, _, _, h => by cases h
  | f + 1, g, g', hw, h => by
    unfold tsinks at h
    split at h
    · split at h
      · cases h; exact hw
      · rename_i k hb
        exact WG.sinks ((hw.upd (by omega) _).goes (ob_lt hb).1 (by omega)) h
    · cases h; exact hw
theorem WG.lets : ∀ {f : Nat} {g go g' go' : Nat → Int32} {n n' : Nat}, WG g → n ≤ 400 → tlets f g go n = some (g', go', n') → WG g' ∧ n' ≤ 400
  | 0, _, _, _, _, _, _, _, _, h => by cases h
  | f + 1, g, go, g', go', n, n', hw, hn, h => by
    unfold tlets at h
    split at h
    · split at h
      · rename_i k hb
        split at h
        · exact WG.lets ((hw.upd (by omega) _).goes (ob_lt hb).1 (by omega)) hn h
        · exact WG.lets (hw.went (ob_lt hb).1 (by omega)) (tgn_le hn) h
      · split at h
        · rename_i k hb
          exact WG.lets (hw.went (ob_lt hb).1 (by omega)) (tgn_le hn) h
        · cases h; exact ⟨hw, hn⟩
    · cases h; exact ⟨hw, hn⟩
theorem WG.fade {q : Nat} : ∀ {f : Nat} {g g' : Nat → Int32}, WG g → tfade q f g = some g' → WG g'
  | 0, _, _, _, h => by cases h
  | f + 1, g, g', hw, h => by
    unfold tfade at h
    split at h
    · split at h
      · cases h
      · rename_i k hb
        exact WG.fade (hw.goes (ob_lt hb).1 (by omega)) h
    · cases h; exact hw
/-- what trim does -/
def ttrim (f : Nat) (g go : Nat → Int32) (n : Nat) (g' go' : Nat → Int32) (n' : Nat) : Prop := ∃ g1 g2 g3, tsinks f g = some g1 ∧ tlets f g1 go n = some (g2, go', n') ∧ tfade 3 f g2 = some g3 ∧ tfade 4 f g3 = some g'
theorem ttrim.WG {f : Nat} {g go : Nat → Int32} {n : Nat} {g' go' : Nat → Int32} {n' : Nat} (h : ttrim f g go n g' go' n') (hw : WG g) (hn : n ≤ 400) : WG g' ∧ n' ≤ 400 := by
  obtain ⟨g1, g2, g3, h1, h2, h3, h4⟩ := h
  have a := WG.lets (hw.sinks h1) hn h2
  exact ⟨WG.fade (WG.fade a.1 h3) h4, a.2⟩
theorem tw_trim {K : JK} {l : Launch} {hE : JIH} {A : Nat} {g sv kp go tx ac ky wt mn ts tz : Nat → Int32} {tp : Nat → Nat → Int64} {mv : Nat → Int64} {i0 i2 i3 i4 i5 : Int32} (F : JF K) {n : Nat} (T : TwR K hE A g sv kp go tx ac ky wt mn ts tz tp mv i0 (nI n) i2 i3 i4 i5) (hw : WG g) (hn : n ≤ 400) {f : Nat} {g' go' : Nat → Int32} {n' : Nat} (hf : ttrim f g go n g' go' n') :
    Ct K l yX5_trim wX5_trim 3 [.ref A] hE (jRv (fun h' => TwS K hE h' A (g') sv kp (go') tx ac ky wt mn ts tz tp mv i0 (nI n') i2 i3 i4 i5)) jNo := by
  refine st_X5_trim (ls := [some (.ref A), none]) F rfl (body := fun M X => ?_)
  obtain ⟨g1, g2, g3, h1, h2, h3, h4⟩ := hf
  have S := T.S
  have hw2 := (WG.lets (hw.sinks h1) hn h2).1
  have hw3 := hw2.fade h3
  have loop4 : ∀ (f : Nat) (g : Nat → Int32) (h1 : JIH), TwS K hE h1 A g sv kp (go') tx ac ky wt mn ts tz tp mv i0 (nI n') i2 i3 i4 i5 → WG g → tfade 4 f g = some g' → J M h1 15 [some (.ref A), some (.int (nI 4))] [] := by
    intro f
    induction f with
    | zero => intro g h1 S hw hf; cases hf
    | succ f ih =>
      intro g h1 S hw hf
      unfold tfade at hf
      refine J.aload0 X dX5_trim_15 ?_
      refine J.getf X dX5_trim_16 fl_X5_11_X5 (S.o) rfl ?_
      refine J.sipush (v := nI 3204) X dX5_trim_19 (by decide) ?_
      refine J.iload1 X dX5_trim_22 ?_
      refine J.iaddN X dX5_trim_23 ?_
      refine J.iald X dX5_trim_24 (S.r_g) (rfl) (by omega) ?_
      refine J.aload0 X dX5_trim_25 ?_
      refine J.getf X dX5_trim_26 fl_X5_11_X5 (S.o) rfl ?_
      refine J.sipush (v := nI 3200) X dX5_trim_29 (by decide) ?_
      refine J.iald X dX5_trim_32 (S.r_g) (rfl) (by omega) ?_
      refine J.icmp_le (tgt := 50) X dX5_trim_33 (by decide) (fun c1 => ?_) (fun c1 => ?_)
      · skip
        rw [if_neg (Int32.not_lt.mpr c1)] at hf
        cases hf
        refine J.iinc1N (d := 1) X dX5_trim_50 (by decide) ?_
        refine J.goto (tgt := 10) X dX5_trim_53 (by decide) ?_
        refine J.iload1 X dX5_trim_10 ?_
        refine J.iconst (v := nI 4) X dX5_trim_11 (by decide) ?_
        refine J.icmp_gtN (tgt := 56) X dX5_trim_12 (by decide) (by omega) (by omega) (fun c2 => ?_) (fun c2 => ?_)
        · skip
          refine J.vreturn X dX5_trim_56 (jRv.of ?_)
          exact S
        · skip
          exact absurd c2 (by omega)
      · skip
        rw [if_pos (Int32.not_le.mp c1)] at hf
        refine J.aload0 X dX5_trim_36 ?_
        refine J.aload0 X dX5_trim_37 ?_
        refine J.iload1 X dX5_trim_38 ?_
        refine J.iconst (v := nI 0) X dX5_trim_39 (by decide) ?_
        refine J.callVi X dX5_trim_40 lk_X5_66_X5 ce_X5_oldest (tw_oldest F S.1 hw (by omega) false) (by decide) rfl (S.o) rfl (fun r h' e _ => ?_)
        obtain ⟨rfl, rfl⟩ := e
        cases hb : ob g 4 false 400 with
        | none => rw [hb] at hf; cases hf
        | some k =>
          rw [hb] at hf
          have hk := (ob_lt hb).1
          refine J.iconst (v := nI 0) X dX5_trim_43 (by decide) ?_
          refine J.callVv X dX5_trim_44 lk_X5_58_X5 ce_X5_goes (tw_goes F S.1 hw hk (by omega)) (by decide) rfl (S.o) rfl (fun h' S' _ => ?_)
          replace S := S.tr S'
          refine J.goto (tgt := 15) X dX5_trim_47 (by decide) ?_
          exact ih _ _ S (hw.goes hk (by omega)) hf
  have loop3 : ∀ (f1 : Nat) (g : Nat → Int32) (h1 : JIH), TwS K hE h1 A g sv kp (go') tx ac ky wt mn ts tz tp mv i0 (nI n') i2 i3 i4 i5 → WG g → tfade 3 f1 g = some g3 → J M h1 15 [some (.ref A), some (.int (nI 3))] [] := by
    intro f1
    induction f1 with
    | zero => intro g h1 S hw hf; cases hf
    | succ f1 ih =>
      intro g h1 S hw hf
      unfold tfade at hf
      refine J.aload0 X dX5_trim_15 ?_
      refine J.getf X dX5_trim_16 fl_X5_11_X5 (S.o) rfl ?_
      refine J.sipush (v := nI 3204) X dX5_trim_19 (by decide) ?_
      refine J.iload1 X dX5_trim_22 ?_
      refine J.iaddN X dX5_trim_23 ?_
      refine J.iald X dX5_trim_24 (S.r_g) (rfl) (by omega) ?_
      refine J.aload0 X dX5_trim_25 ?_
      refine J.getf X dX5_trim_26 fl_X5_11_X5 (S.o) rfl ?_
      refine J.sipush (v := nI 3200) X dX5_trim_29 (by decide) ?_
      refine J.iald X dX5_trim_32 (S.r_g) (rfl) (by omega) ?_
      refine J.icmp_le (tgt := 50) X dX5_trim_33 (by decide) (fun c1 => ?_) (fun c1 => ?_)
      · skip
        rw [if_neg (Int32.not_lt.mpr c1)] at hf
        cases hf
        refine J.iinc1N (d := 1) X dX5_trim_50 (by decide) ?_
        refine J.goto (tgt := 10) X dX5_trim_53 (by decide) ?_
        refine J.iload1 X dX5_trim_10 ?_
        refine J.iconst (v := nI 4) X dX5_trim_11 (by decide) ?_
        refine J.icmp_gtN (tgt := 56) X dX5_trim_12 (by decide) (by omega) (by omega) (fun c2 => ?_) (fun c2 => ?_)
        · skip
          exact absurd c2 (by omega)
        · skip
          exact loop4 f _ _ S hw h4
      · skip
        rw [if_pos (Int32.not_le.mp c1)] at hf
        refine J.aload0 X dX5_trim_36 ?_
        refine J.aload0 X dX5_trim_37 ?_
        refine J.iload1 X dX5_trim_38 ?_
        refine J.iconst (v := nI 0) X dX5_trim_39 (by decide) ?_
        refine J.callVi X dX5_trim_40 lk_X5_66_X5 ce_X5_oldest (tw_oldest F S.1 hw (by omega) false) (by decide) rfl (S.o) rfl (fun r h' e _ => ?_)
        obtain ⟨rfl, rfl⟩ := e
        cases hb : ob g 3 false 400 with
        | none => rw [hb] at hf; cases hf
        | some k =>
          rw [hb] at hf
          have hk := (ob_lt hb).1
          refine J.iconst (v := nI 0) X dX5_trim_43 (by decide) ?_
          refine J.callVv X dX5_trim_44 lk_X5_58_X5 ce_X5_goes (tw_goes F S.1 hw hk (by omega)) (by decide) rfl (S.o) rfl (fun h' S' _ => ?_)
          replace S := S.tr S'
          refine J.goto (tgt := 15) X dX5_trim_47 (by decide) ?_
          exact ih _ _ S (hw.goes hk (by omega)) hf
  refine J.aload0 X dX5_trim_0 ?_
  refine J.callVv X dX5_trim_1 lk_X5_73_X5 ce_X5_sinks (tw_sinks F S.1 hw h1) (by decide) rfl (S.o) rfl (fun h' S' _ => ?_)
  replace S := S.tr S'
  refine J.aload0 X dX5_trim_4 ?_
  refine J.callVv X dX5_trim_5 lk_X5_76_X5 ce_X5_lets (tw_lets F S.1 (hw.sinks h1) hn h2) (by decide) rfl (S.o) rfl (fun h' S' _ => ?_)
  replace S := S.tr S'
  refine J.iconst (v := nI 3) X dX5_trim_8 (by decide) ?_
  refine J.istore1 X dX5_trim_9 ?_
  refine J.iload1 X dX5_trim_10 ?_
  refine J.iconst (v := nI 4) X dX5_trim_11 (by decide) ?_
  refine J.icmp_gtN (tgt := 56) X dX5_trim_12 (by decide) (by omega) (by omega) (fun c2 => ?_) (fun c2 => ?_)
  · skip
    exact absurd c2 (by omega)
  · skip
    exact loop3 f _ _ S hw2 h3
