/-! the model: what is asked of it (1) -/
theorem in_nat {x lo : Int32} {m : Nat} (hm : m < 2147483648) (h0 : (0 : Int32) ≤ lo) (h : lo ≤ x ∧ x ≤ nI m) : ∃ j, j ≤ m ∧ x = nI j :=
  nI_of2 (nI_toInt hm) (Int32.not_lt.mpr (Int32.le_trans h0 h.1)) h.2
theorem nat_in {j m : Nat} (hm : m < 2147483648) (h : j ≤ m) : (0 : Int32) ≤ nI j ∧ nI j ≤ nI m := ⟨nI_pos' (by omega), nI_le h hm⟩
theorem tkey_nat {s n : Int32} (h : tkey s n) : ∃ a b, a ≤ 3 ∧ b ≤ 99 ∧ s = nI a ∧ n = nI b := by
  obtain ⟨a, ha, rfl⟩ := in_nat (m := 3) (by decide) (by decide) h.1
  obtain ⟨b, hb, rfl⟩ := in_nat (m := 99) (by decide) (by decide) h.2
  exact ⟨a, b, ha, hb, rfl, rfl⟩
theorem key_nat (a b : Nat) : nI 100 * nI a + nI b = nI (100 * a + b) := by rw [pk_mul, nI_add]
def tNO : Int64 := -9223372036854775808
def tSame (g go : Nat → Int32) (n : Nat) (g' go' : Nat → Int32) (n' : Nat) : Prop := g' = g ∧ go' = go ∧ n' = n
def tputAR (f : Nat) (g go : Nat → Int32) (n : Nat) (s m v x c : Int32) (r : Int32) (g' go' : Nat → Int32) (n' : Nat) : Prop :=
  (¬ tkey s m ∧ r = -1 ∧ tSame g go n g' go' n') ∨ (tkey s m ∧ ¬ ((nI 1 ≤ x ∧ x ≤ nI 9) ∧ (nI 0 ≤ c ∧ c ≤ nI 99)) ∧ r = -2 ∧ tSame g go n g' go' n') ∨
  (tkey s m ∧ ((nI 1 ≤ x ∧ x ≤ nI 9) ∧ (nI 0 ≤ c ∧ c ≤ nI 99)) ∧ g 3200 < x ∧ r = -4 ∧ tSame g go n g' go' n') ∨
  (tkey s m ∧ ((nI 1 ≤ x ∧ x ≤ nI 9) ∧ (nI 0 ≤ c ∧ c ≤ nI 99)) ∧ x ≤ g 3200 ∧ ∃ k r', k < 400 ∧ nI 100 * s + m = nI k ∧ r = nI r' ∧ tputR f g go n k v x c r' g' go' n')
theorem tw_put {K : JK} {l : Launch} {hE : JIH} {A : Nat} {g sv kp go tx ac ky wt mn ts tz : Nat → Int32} {tp : Nat → Nat → Int64} {mv : Nat → Int64} {i0 i2 i3 i4 i5 : Int32} (F : JF K) {n : Nat} (T : TwR K hE A g sv kp go tx ac ky wt mn ts tz tp mv i0 (nI n) i2 i3 i4 i5) (hw : WG g) (hn : n ≤ 400) {s m v x c r : Int32} {f : Nat} {g' go' : Nat → Int32} {n' : Nat} (hf : tputAR f g go n s m v x c r g' go' n') :
    Ct K l yX5_put wX5_put 5 [.ref A, .int s, .int m, .int v, .int x, .int c] hE (jRi (fun r0 h' => r0 = r ∧ TwS K hE h' A (g') sv kp (go') tx ac ky wt mn ts tz tp mv i0 (nI n') i2 i3 i4 i5)) jNo := by
  refine st_X5_put (ls := [some (.ref A), some (.int s), some (.int m), some (.int v), some (.int x), some (.int c)]) F rfl (body := fun M X => ?_)
  have S := T.S
  refine J.iload1 X dX5_put_0 ?_
  refine J.iload2 X dX5_put_1 ?_
  refine J.callSi X dX5_put_2 lk_X5_96 ce_X5_isKey (tw_isKey F s m) (by decide) rfl (fun r h' e _ => ?_)
  obtain ⟨rfl, rfl⟩ := e
  refine J.if_neB (tgt := 10) X dX5_put_5 (by decide) (fun c1 => ?_) (fun c1 => ?_)
  · skip
    refine J.iload4 X dX5_put_10 ?_
    refine J.iconst (v := nI 1) X dX5_put_12 (by decide) ?_
    refine J.bipush (v := nI 9) X dX5_put_13 (by decide) ?_
    refine J.callSi X dX5_put_15 lk_X5_54 ce_X5_in (tw_in F x 1 9) (by decide) rfl (fun r h' e _ => ?_)
    obtain ⟨rfl, rfl⟩ := e
    refine J.if_eqB (tgt := 32) X dX5_put_18 (by decide) (fun c2 => ?_) (fun c2 => ?_)
    · skip
      refine J.bipush (v := -2) X dX5_put_32 (by decide) ?_
      refine J.zreturn X dX5_put_34 (rfl) (jRi.of ?_)
      rcases hf with ⟨e, -⟩ | ⟨-, -, e1, e2, e3, e4⟩ | ⟨-, e, -⟩ | ⟨-, e, -⟩
      · exact absurd c1 e
      · subst e2; subst e3; subst e4; exact ⟨e1.symm, S⟩
      · exact absurd e.1 c2
      · exact absurd e.1 c2
    · skip
      refine J.iload5 X dX5_put_21 ?_
      refine J.iconst (v := nI 0) X dX5_put_23 (by decide) ?_
      refine J.bipush (v := nI 99) X dX5_put_24 (by decide) ?_
      refine J.callSi X dX5_put_26 lk_X5_54 ce_X5_in (tw_in F c 0 99) (by decide) rfl (fun r h' e _ => ?_)
      obtain ⟨rfl, rfl⟩ := e
      refine J.if_neB (tgt := 35) X dX5_put_29 (by decide) (fun c3 => ?_) (fun c3 => ?_)
      · skip
        refine J.iload4 X dX5_put_35 ?_
        refine J.aload0 X dX5_put_37 ?_
        refine J.getf X dX5_put_38 fl_X5_11_X5 (S.o) rfl ?_
        refine J.sipush (v := nI 3200) X dX5_put_41 (by decide) ?_
        refine J.iald X dX5_put_44 (S.r_g) (rfl) (by omega) ?_
        refine J.icmp_le (tgt := 53) X dX5_put_45 (by decide) (fun c4 => ?_) (fun c4 => ?_)
        · skip
          rcases hf with ⟨e, -⟩ | ⟨-, e, -⟩ | ⟨-, -, e, -⟩ | ⟨-, -, -, k, r', hk, hkk, rfl, hf⟩
          · exact absurd c1 e
          · exact absurd ⟨c2, c3⟩ e
          · exact absurd e (Int32.not_lt.mpr c4)
          · refine J.aload0 X dX5_put_53 ?_
            refine J.bipush (v := nI 100) X dX5_put_54 (by decide) ?_
            refine J.iload1 X dX5_put_56 ?_
            refine J.imul X dX5_put_57 ?_
            refine J.iload2 X dX5_put_58 ?_
            refine J.iadd X dX5_put_59 ?_
            refine J.topi (y := nI (k)) (hkk) ?_
            refine J.iload3 X dX5_put_60 ?_
            refine J.iload4 X dX5_put_61 ?_
            refine J.iload5 X dX5_put_63 ?_
            refine J.callVi X dX5_put_65 lk_X5_100_X5 ce_X5_putIn (tw_putIn F S.1 hw hn hk v x c hf) (by decide) rfl (S.o) rfl (fun r h' z _ => ?_)
            obtain ⟨rfl, S'⟩ := z
            refine J.zreturn X dX5_put_68 (rfl) (jRi.of ?_)
            exact ⟨rfl, S'⟩
        · skip
          refine J.bipush (v := -4) X dX5_put_48 (by decide) ?_
          refine J.goto (tgt := 68) X dX5_put_50 (by decide) ?_
          refine J.zreturn X dX5_put_68 (rfl) (jRi.of ?_)
          rcases hf with ⟨e, -⟩ | ⟨-, e, -⟩ | ⟨-, -, -, e1, e2, e3, e4⟩ | ⟨-, -, e, -⟩
          · exact absurd c1 e
          · exact absurd ⟨c2, c3⟩ e
          · subst e2; subst e3; subst e4; exact ⟨e1.symm, S⟩
          · exact absurd e c4
      · skip
        refine J.bipush (v := -2) X dX5_put_32 (by decide) ?_
        refine J.zreturn X dX5_put_34 (rfl) (jRi.of ?_)
        rcases hf with ⟨e, -⟩ | ⟨-, -, e1, e2, e3, e4⟩ | ⟨-, e, -⟩ | ⟨-, e, -⟩
        · exact absurd c1 e
        · subst e2; subst e3; subst e4; exact ⟨e1.symm, S⟩
        · exact absurd e.2 c3
        · exact absurd e.2 c3
  · skip
    refine J.iconst (v := -1) X dX5_put_8 (by decide) ?_
    refine J.zreturn X dX5_put_9 (rfl) (jRi.of ?_)
    rcases hf with ⟨-, e1, e2, e3, e4⟩ | ⟨e, -⟩ | ⟨e, -⟩ | ⟨e, -⟩
    · subst e2; subst e3; subst e4; exact ⟨e1.symm, S⟩
    · exact absurd e c1
    · exact absurd e c1
    · exact absurd e c1
def tgetAR (f : Nat) (g go : Nat → Int32) (n : Nat) (s m : Int32) (r : Int64) (g' go' : Nat → Int32) (n' : Nat) : Prop :=
  (¬ tkey s m ∧ r = tNO ∧ tSame g go n g' go' n') ∨ (tkey s m ∧ ∃ k r', k < 400 ∧ nI 100 * s + m = nI k ∧ tgetsR f g go n k r' g' go' n' ∧ r = if r' = 0 then tNO else (g (400 + k)).toInt64)
theorem tgetsR.le {f : Nat} {g go : Nat → Int32} {n k r : Nat} {g' go' : Nat → Int32} {n' : Nat} (h : tgetsR f g go n k r g' go' n') : r ≤ 1 := by
  rcases h with ⟨-, rfl, -⟩ | ⟨-, rfl, -⟩ <;> omega
theorem tw_get {K : JK} {l : Launch} {hE : JIH} {A : Nat} {g sv kp go tx ac ky wt mn ts tz : Nat → Int32} {tp : Nat → Nat → Int64} {mv : Nat → Int64} {i0 i2 i3 i4 i5 : Int32} (F : JF K) {n : Nat} (T : TwR K hE A g sv kp go tx ac ky wt mn ts tz tp mv i0 (nI n) i2 i3 i4 i5) (hw : WG g) (hn : n ≤ 400) {s m : Int32} {r : Int64} {f : Nat} {g' go' : Nat → Int32} {n' : Nat} (hf : tgetAR f g go n s m r g' go' n') :
    Ct K l yX5_get wX5_get 5 [.ref A, .int s, .int m] hE (jRl (fun r0 h' => r0 = r ∧ TwS K hE h' A (g') sv kp (go') tx ac ky wt mn ts tz tp mv i0 (nI n') i2 i3 i4 i5)) jNo := by
  refine st_X5_get (ls := [some (.ref A), some (.int s), some (.int m), none, none]) F rfl (body := fun M X => ?_)
  have S := T.S
  refine J.iload1 X dX5_get_0 ?_
  refine J.iload2 X dX5_get_1 ?_
  refine J.callSi X dX5_get_2 lk_X5_96 ce_X5_isKey (tw_isKey F s m) (by decide) rfl (fun r h' e _ => ?_)
  obtain ⟨rfl, rfl⟩ := e
  refine J.if_neB (tgt := 12) X dX5_get_5 (by decide) (fun c1 => ?_) (fun c1 => ?_)
  · skip
    rcases hf with ⟨e, -⟩ | ⟨-, k, r', hk, hkk, hf, rfl⟩
    · exact absurd c1 e
    have hr := hf.le
    refine J.bipush (v := nI 100) X dX5_get_12 (by decide) ?_
    refine J.iload1 X dX5_get_14 ?_
    refine J.imul X dX5_get_15 ?_
    refine J.iload2 X dX5_get_16 ?_
    refine J.iadd X dX5_get_17 ?_
    refine J.topi (y := nI (k)) (hkk) ?_
    refine J.istore3 X dX5_get_18 ?_
    refine J.aload0 X dX5_get_19 ?_
    refine J.getf X dX5_get_20 fl_X5_11_X5 (S.o) rfl ?_
    refine J.sipush (v := nI 400) X dX5_get_23 (by decide) ?_
    refine J.iload3 X dX5_get_26 ?_
    refine J.iaddN X dX5_get_27 ?_
    refine J.iald X dX5_get_28 (S.r_g) (rfl) (by omega) ?_
    refine J.istore4 X dX5_get_29 ?_
    refine J.aload0 X dX5_get_31 ?_
    refine J.iload3 X dX5_get_32 ?_
    refine J.callVi X dX5_get_33 lk_X5_106_X5 ce_X5_gets (tw_gets F S.1 hw hn hk hf) (by decide) rfl (S.o) rfl (fun r h' z _ => ?_)
    obtain ⟨rfl, S'⟩ := z
    refine J.if_eqN (tgt := 45) X dX5_get_36 (by decide) (by omega) (fun c2 => ?_) (fun c2 => ?_)
    · skip
      refine J.ldc2 (v := (-9223372036854775808)) X dX5_get_45 q2859 ?_
      refine J.lreturn X dX5_get_48 (jRl.of ?_)
      exact ⟨by rw [if_pos c2]; rfl, S'⟩
    · skip
      refine J.iload4 X dX5_get_39 ?_
      refine J.i2l X dX5_get_41 ?_
      refine J.goto (tgt := 48) X dX5_get_42 (by decide) ?_
      refine J.lreturn X dX5_get_48 (jRl.of ?_)
      exact ⟨by rw [if_neg c2], S'⟩
  · skip
    refine J.ldc2 (v := (-9223372036854775808)) X dX5_get_8 q2859 ?_
    refine J.lreturn X dX5_get_11 (jRl.of ?_)
    rcases hf with ⟨-, e1, e2, e3, e4⟩ | ⟨e, -⟩
    · subst e2; subst e3; subst e4; exact ⟨e1.symm, S⟩
    · exact absurd e c1
def tdropAR (g : Nat → Int32) (s m : Int32) (r : Int32) (g' : Nat → Int32) : Prop :=
  (¬ tkey s m ∧ r = -1 ∧ g' = g) ∨ (tkey s m ∧ ∃ k, k < 400 ∧ nI 100 * s + m = nI k ∧ r = nI (wh g k) ∧ g' = tgoes g k 0)
theorem tw_drop {K : JK} {l : Launch} {hE : JIH} {A : Nat} {g sv kp go tx ac ky wt mn ts tz : Nat → Int32} {tp : Nat → Nat → Int64} {mv : Nat → Int64} {i0 i1 i2 i3 i4 i5 : Int32} (F : JF K) (T : TwR K hE A g sv kp go tx ac ky wt mn ts tz tp mv i0 i1 i2 i3 i4 i5) (hw : WG g) {s m r : Int32} {g' : Nat → Int32} (hf : tdropAR g s m r g') :
    Ct K l yX5_drop wX5_drop 5 [.ref A, .int s, .int m] hE (jRi (fun r0 h' => r0 = r ∧ TwS K hE h' A (g') sv kp go tx ac ky wt mn ts tz tp mv i0 i1 i2 i3 i4 i5)) jNo := by
  refine st_X5_drop (ls := [some (.ref A), some (.int s), some (.int m)]) F rfl (body := fun M X => ?_)
  have S := T.S
  refine J.iload1 X dX5_drop_0 ?_
  refine J.iload2 X dX5_drop_1 ?_
  refine J.callSi X dX5_drop_2 lk_X5_96 ce_X5_isKey (tw_isKey F s m) (by decide) rfl (fun r h' e _ => ?_)
  obtain ⟨rfl, rfl⟩ := e
  refine J.if_eqB (tgt := 21) X dX5_drop_5 (by decide) (fun c1 => ?_) (fun c1 => ?_)
  · skip
    refine J.iconst (v := -1) X dX5_drop_21 (by decide) ?_
    refine J.zreturn X dX5_drop_22 (rfl) (jRi.of ?_)
    rcases hf with ⟨-, rfl, rfl⟩ | ⟨e, -⟩
    · exact ⟨rfl, S⟩
    · exact absurd e c1
  · skip
    rcases hf with ⟨e, -⟩ | ⟨-, k, hk, hkk, rfl, rfl⟩
    · exact absurd c1 e
    refine J.aload0 X dX5_drop_8 ?_
    refine J.bipush (v := nI 100) X dX5_drop_9 (by decide) ?_
    refine J.iload1 X dX5_drop_11 ?_
    refine J.imul X dX5_drop_12 ?_
    refine J.iload2 X dX5_drop_13 ?_
    refine J.iadd X dX5_drop_14 ?_
    refine J.topi (y := nI (k)) (hkk) ?_
    refine J.callVi X dX5_drop_15 lk_X5_109_X5 ce_X5_drops (tw_drops F S.1 hw hk) (by decide) rfl (S.o) rfl (fun r h' z _ => ?_)
    obtain ⟨rfl, S'⟩ := z
    refine J.goto (tgt := 22) X dX5_drop_18 (by decide) ?_
    refine J.zreturn X dX5_drop_22 (rfl) (jRi.of ?_)
    exact ⟨rfl, S'⟩
def tpinAR (g : Nat → Int32) (s m : Int32) (b : Bool) (r : Int32) (g' : Nat → Int32) : Prop :=
  (¬ tkey s m ∧ r = -1 ∧ g' = g) ∨ (tkey s m ∧ ∃ k, k < 400 ∧ nI 100 * s + m = nI k ∧ ((¬ tthing g k ∧ r = -3 ∧ g' = g) ∨ (tthing g k ∧ r = g (2400 + k) ∧ g' = upd g (2400 + k) (nI b.toNat))))
theorem tw_pin {K : JK} {l : Launch} {hE : JIH} {A : Nat} {g sv kp go tx ac ky wt mn ts tz : Nat → Int32} {tp : Nat → Nat → Int64} {mv : Nat → Int64} {i0 i1 i2 i3 i4 i5 : Int32} (F : JF K) (T : TwR K hE A g sv kp go tx ac ky wt mn ts tz tp mv i0 i1 i2 i3 i4 i5) (hw : WG g) {s m r : Int32} (b : Bool) {g' : Nat → Int32} (hf : tpinAR g s m b r g') :
    Ct K l yX5_pin wX5_pin 5 [.ref A, .int s, .int m, .int (nI b.toNat)] hE (jRi (fun r0 h' => r0 = r ∧ TwS K hE h' A (g') sv kp go tx ac ky wt mn ts tz tp mv i0 i1 i2 i3 i4 i5)) jNo := by
  refine st_X5_pin (ls := [some (.ref A), some (.int s), some (.int m), some (.int (nI b.toNat)), none, none]) F rfl (body := fun M X => ?_)
  have S := T.S
  have hb2 : b.toNat < 2 := by cases b <;> decide
  refine J.iload1 X dX5_pin_0 ?_
  refine J.iload2 X dX5_pin_1 ?_
  refine J.callSi X dX5_pin_2 lk_X5_96 ce_X5_isKey (tw_isKey F s m) (by decide) rfl (fun r h' e _ => ?_)
  obtain ⟨rfl, rfl⟩ := e
  refine J.if_neB (tgt := 10) X dX5_pin_5 (by decide) (fun c1 => ?_) (fun c1 => ?_)
  · skip
    rcases hf with ⟨e, -⟩ | ⟨-, k, hk, hkk, hf⟩
    · exact absurd c1 e
    refine J.bipush (v := nI 100) X dX5_pin_10 (by decide) ?_
    refine J.iload1 X dX5_pin_12 ?_
    refine J.imul X dX5_pin_13 ?_
    refine J.iload2 X dX5_pin_14 ?_
    refine J.iadd X dX5_pin_15 ?_
    refine J.topi (y := nI (k)) (hkk) ?_
    refine J.istore4 X dX5_pin_16 ?_
    refine J.aload0 X dX5_pin_18 ?_
    refine J.iload4 X dX5_pin_19 ?_
    refine J.callVi X dX5_pin_21 lk_X5_89_X5 ce_X5_isThing (tw_isThing F S.1 hw hk) (by decide) rfl (S.o) rfl (fun r h' e _ => ?_)
    obtain ⟨rfl, rfl⟩ := e
    refine J.if_neB (tgt := 30) X dX5_pin_24 (by decide) (fun c2 => ?_) (fun c2 => ?_)
    · skip
      rcases hf with ⟨e, -⟩ | ⟨-, rfl, rfl⟩
      · exact absurd c2 e
      refine J.aload0 X dX5_pin_30 ?_
      refine J.getf X dX5_pin_31 fl_X5_11_X5 (S.o) rfl ?_
      refine J.sipush (v := nI 2400) X dX5_pin_34 (by decide) ?_
      refine J.iload4 X dX5_pin_37 ?_
      refine J.iaddN X dX5_pin_39 ?_
      refine J.iald X dX5_pin_40 (S.r_g) (rfl) (by omega) ?_
      refine J.istore5 X dX5_pin_41 ?_
      refine J.aload0 X dX5_pin_43 ?_
      refine J.getf X dX5_pin_44 fl_X5_11_X5 (S.o) rfl ?_
      refine J.sipush (v := nI 2400) X dX5_pin_47 (by decide) ?_
      refine J.iload4 X dX5_pin_50 ?_
      refine J.iaddN X dX5_pin_52 ?_
      refine J.at (pc' := 53) rfl ?_
      refine J.iload3 X dX5_pin_53 ?_
      refine J.if_eqN (tgt := 61) X dX5_pin_54 (by decide) (by omega) (fun c3 => ?_) (fun c3 => ?_)
      · skip
        refine J.iconst (v := nI 0) X dX5_pin_61 (by decide) ?_
        refine J.tw_g X dX5_pin_62 S (rfl) (by omega) (fun h S => ?_)
        refine J.iload5 X dX5_pin_63 ?_
        refine J.zreturn X dX5_pin_65 (rfl) (jRi.of ?_)
        rw [c3]
        exact ⟨rfl, S⟩
      · skip
        refine J.iconst (v := nI 1) X dX5_pin_57 (by decide) ?_
        refine J.goto (tgt := 62) X dX5_pin_58 (by decide) ?_
        refine J.tw_g X dX5_pin_62 S (rfl) (by omega) (fun h S => ?_)
        refine J.iload5 X dX5_pin_63 ?_
        refine J.zreturn X dX5_pin_65 (rfl) (jRi.of ?_)
        rw [show b.toNat = 1 by omega]
        exact ⟨rfl, S⟩
    · skip
      refine J.bipush (v := -3) X dX5_pin_27 (by decide) ?_
      refine J.zreturn X dX5_pin_29 (rfl) (jRi.of ?_)
      rcases hf with ⟨-, rfl, rfl⟩ | ⟨e, -⟩
      · exact ⟨rfl, S⟩
      · exact absurd e c2
  · skip
    refine J.iconst (v := -1) X dX5_pin_8 (by decide) ?_
    refine J.zreturn X dX5_pin_9 (rfl) (jRi.of ?_)
    rcases hf with ⟨-, rfl, rfl⟩ | ⟨e, -⟩
    · exact ⟨rfl, S⟩
    · exact absurd e c1
def tsetOk (g : Nat → Int32) (j : Nat) (x : Int32) : Prop := if j = 0 then nI 1 ≤ x ∧ x ≤ nI 99 else if j = 1 then nI 0 ≤ x ∧ x ≤ g 3200 else if j = 2 then nI 1 ≤ x ∧ x ≤ nI 9 else nI 0 ≤ x ∧ x ≤ nI 9
def tsetAR (f : Nat) (g go : Nat → Int32) (n : Nat) (a x : Int32) (r : Int32) (g' go' : Nat → Int32) (n' : Nat) : Prop :=
  (¬ (nI 0 ≤ a ∧ a ≤ nI 3) ∧ r = -1 ∧ tSame g go n g' go' n') ∨ ∃ j, j ≤ 3 ∧ a = nI j ∧ ((¬ tsetOk g j x ∧ r = -2 ∧ tSame g go n g' go' n') ∨ (tsetOk g j x ∧ r = g (3200 + j) ∧
    ((j = 0 ∧ ttrim f (tcapG g x) go n g' go' n') ∨ (j = 1 ∧ ttrim f (upd g 3201 x) go n g' go' n') ∨ (2 ≤ j ∧ tSame (upd g (3200 + j) x) go n g' go' n'))))
theorem tw_set {K : JK} {l : Launch} {hE : JIH} {A : Nat} {g sv kp go tx ac ky wt mn ts tz : Nat → Int32} {tp : Nat → Nat → Int64} {mv : Nat → Int64} {i0 i2 i3 i4 i5 : Int32} (F : JF K) {n : Nat} (T : TwR K hE A g sv kp go tx ac ky wt mn ts tz tp mv i0 (nI n) i2 i3 i4 i5) (hw : WG g) (hn : n ≤ 400) {a x r : Int32} {f : Nat} {g' go' : Nat → Int32} {n' : Nat} (hf : tsetAR f g go n a x r g' go' n') :
    Ct K l yX5_set wX5_set 5 [.ref A, .int a, .int x] hE (jRi (fun r0 h' => r0 = r ∧ TwS K hE h' A (g') sv kp (go') tx ac ky wt mn ts tz tp mv i0 (nI n') i2 i3 i4 i5)) jNo := by
  refine st_X5_set (ls := [some (.ref A), some (.int a), some (.int x), none, none]) F rfl (body := fun M X => ?_)
  have S := T.S
  refine J.iload1 X dX5_set_0 ?_
  refine J.iconst (v := nI 0) X dX5_set_1 (by decide) ?_
  refine J.iconst (v := nI 3) X dX5_set_2 (by decide) ?_
  refine J.callSi X dX5_set_3 lk_X5_54 ce_X5_in (tw_in F a 0 3) (by decide) rfl (fun r h' e _ => ?_)
  obtain ⟨rfl, rfl⟩ := e
  refine J.if_neB (tgt := 11) X dX5_set_6 (by decide) (fun c1 => ?_) (fun c1 => ?_)
  · skip
    rcases hf with ⟨e, -⟩ | ⟨j, hj, rfl, hf⟩
    · exact absurd c1 e
    clear c1
    have key : ∀ (q : Prop) [Decidable q], (q ↔ tsetOk g j x) → J M hE 68 [some (.ref A), some (.int (nI j)), some (.int x), none, none] [.int (jB q)] := by
      intro q _ hq
      refine J.istore3 X dX5_set_68 ?_
      refine J.iload3 X dX5_set_69 ?_
      refine J.if_neB (tgt := 76) X dX5_set_70 (by decide) (fun c2 => ?_) (fun c2 => ?_)
      · skip
        rcases hf with ⟨e, -⟩ | ⟨-, rfl, hf⟩
        · exact absurd (hq.mp c2) e
        refine J.aload0 X dX5_set_76 ?_
        refine J.getf X dX5_set_77 fl_X5_11_X5 (S.o) rfl ?_
        refine J.sipush (v := nI 3200) X dX5_set_80 (by decide) ?_
        refine J.iload1 X dX5_set_83 ?_
        refine J.iaddN X dX5_set_84 ?_
        refine J.iald X dX5_set_85 (S.r_g) (rfl) (by omega) ?_
        refine J.istore4 X dX5_set_86 ?_
        refine J.iload1 X dX5_set_88 ?_
        refine J.if_neN (tgt := 100) X dX5_set_89 (by decide) (by omega) (fun c3 => ?_) (fun c3 => ?_)
        · skip
          refine J.aload0 X dX5_set_100 ?_
          refine J.getf X dX5_set_101 fl_X5_11_X5 (S.o) rfl ?_
          refine J.sipush (v := nI 3200) X dX5_set_104 (by decide) ?_
          refine J.iload1 X dX5_set_107 ?_
          refine J.iaddN X dX5_set_108 ?_
          refine J.iload2 X dX5_set_109 ?_
          refine J.tw_g X dX5_set_110 S (rfl) (by omega) (fun h S => ?_)
          refine J.iload1 X dX5_set_111 ?_
          refine J.iconst (v := nI 1) X dX5_set_112 (by decide) ?_
          refine J.icmp_neN (tgt := 120) X dX5_set_113 (by decide) (by omega) (by omega) (fun c4 => ?_) (fun c4 => ?_)
          · skip
            rcases hf with ⟨e, -⟩ | ⟨e, -⟩ | ⟨-, e2, e3, e4⟩
            · exact absurd e c3
            · exact absurd e c4
            subst e2; subst e3; subst e4
            refine J.iload4 X dX5_set_120 ?_
            refine J.zreturn X dX5_set_122 (rfl) (jRi.of ?_)
            exact ⟨rfl, S⟩
          · skip
            rcases hf with ⟨e, -⟩ | ⟨-, hf⟩ | ⟨e, -⟩
            · exact absurd e c3
            · subst c4
              refine J.aload0 X dX5_set_116 ?_
              refine J.callVv X dX5_set_117 lk_X5_86_X5 ce_X5_trim (tw_trim F S.1 (hw.upd (by omega) _) hn hf) (by decide) rfl (S.o) rfl (fun h' S' _ => ?_)
              replace S := S.tr S'
              refine J.iload4 X dX5_set_120 ?_
              refine J.zreturn X dX5_set_122 (rfl) (jRi.of ?_)
              exact ⟨rfl, S⟩
            · exact absurd e (by omega)
        · skip
          rcases hf with ⟨-, hf⟩ | ⟨e, -⟩ | ⟨e, -⟩
          · subst c3
            refine J.aload0 X dX5_set_92 ?_
            refine J.iload2 X dX5_set_93 ?_
            refine J.callVv X dX5_set_94 lk_X5_93_X5 ce_X5_capacity (tw_capacity F S.1 hw hn x hf) (by decide) rfl (S.o) rfl (fun h' S' _ => ?_)
            replace S := S.tr S'
            refine J.goto (tgt := 120) X dX5_set_97 (by decide) ?_
            refine J.iload4 X dX5_set_120 ?_
            refine J.zreturn X dX5_set_122 (rfl) (jRi.of ?_)
            exact ⟨rfl, S⟩
          · exact absurd e (by omega)
          · exact absurd e (by omega)
      · skip
        rcases hf with ⟨-, e1, e2, e3, e4⟩ | ⟨e, -⟩
        · subst e2; subst e3; subst e4
          refine J.bipush (v := -2) X dX5_set_73 (by decide) ?_
          refine J.zreturn X dX5_set_75 (rfl) (jRi.of ?_)
          exact ⟨e1.symm, S⟩
        · exact absurd (hq.mpr e) c2
    refine J.iload1 X dX5_set_11 ?_
    refine J.if_neN (tgt := 25) X dX5_set_12 (by decide) (by omega) (fun c2 => ?_) (fun c2 => ?_)
    · skip
      refine J.iload1 X dX5_set_25 ?_
      refine J.iconst (v := nI 1) X dX5_set_26 (by decide) ?_
      refine J.icmp_neN (tgt := 46) X dX5_set_27 (by decide) (by omega) (by omega) (fun c3 => ?_) (fun c3 => ?_)
      · skip
        refine J.iload1 X dX5_set_46 ?_
        refine J.iconst (v := nI 2) X dX5_set_47 (by decide) ?_
        refine J.icmp_neN (tgt := 61) X dX5_set_48 (by decide) (by omega) (by omega) (fun c4 => ?_) (fun c4 => ?_)
        · skip
          refine J.iload2 X dX5_set_61 ?_
          refine J.iconst (v := nI 0) X dX5_set_62 (by decide) ?_
          refine J.bipush (v := nI 9) X dX5_set_63 (by decide) ?_
          refine J.callSi X dX5_set_65 lk_X5_54 ce_X5_in (tw_in F x 0 9) (by decide) rfl (fun r h' e _ => ?_)
          obtain ⟨rfl, rfl⟩ := e
          exact key _ (by unfold tsetOk; rw [if_neg c2, if_neg c3, if_neg c4]; exact Iff.rfl)
        · skip
          refine J.iload2 X dX5_set_51 ?_
          refine J.iconst (v := nI 1) X dX5_set_52 (by decide) ?_
          refine J.bipush (v := nI 9) X dX5_set_53 (by decide) ?_
          refine J.callSi X dX5_set_55 lk_X5_54 ce_X5_in (tw_in F x 1 9) (by decide) rfl (fun r h' e _ => ?_)
          obtain ⟨rfl, rfl⟩ := e
          refine J.goto (tgt := 68) X dX5_set_58 (by decide) ?_
          exact key _ (by unfold tsetOk; rw [if_neg c2, if_neg c3, if_pos c4]; exact Iff.rfl)
      · skip
        refine J.iload2 X dX5_set_30 ?_
        refine J.iconst (v := nI 0) X dX5_set_31 (by decide) ?_
        refine J.aload0 X dX5_set_32 ?_
        refine J.getf X dX5_set_33 fl_X5_11_X5 (S.o) rfl ?_
        refine J.sipush (v := nI 3200) X dX5_set_36 (by decide) ?_
        refine J.iald X dX5_set_39 (S.r_g) (rfl) (by omega) ?_
        refine J.callSi X dX5_set_40 lk_X5_54 ce_X5_in (tw_in F x 0 (g 3200)) (by decide) rfl (fun r h' e _ => ?_)
        obtain ⟨rfl, rfl⟩ := e
        refine J.goto (tgt := 68) X dX5_set_43 (by decide) ?_
        exact key _ (by unfold tsetOk; rw [if_neg c2, if_pos c3]; exact Iff.rfl)
    · skip
      refine J.iload2 X dX5_set_15 ?_
      refine J.iconst (v := nI 1) X dX5_set_16 (by decide) ?_
      refine J.bipush (v := nI 99) X dX5_set_17 (by decide) ?_
      refine J.callSi X dX5_set_19 lk_X5_54 ce_X5_in (tw_in F x 1 99) (by decide) rfl (fun r h' e _ => ?_)
      obtain ⟨rfl, rfl⟩ := e
      refine J.goto (tgt := 68) X dX5_set_22 (by decide) ?_
      exact key _ (by unfold tsetOk; rw [if_pos c2]; exact Iff.rfl)
  · skip
    refine J.iconst (v := -1) X dX5_set_9 (by decide) ?_
    refine J.zreturn X dX5_set_10 (rfl) (jRi.of ?_)
    rcases hf with ⟨-, e1, e2, e3, e4⟩ | ⟨j, hj, rfl, -⟩
    · subst e2; subst e3; subst e4; exact ⟨e1.symm, S⟩
    · exact absurd (nat_in (by decide) hj) c1
