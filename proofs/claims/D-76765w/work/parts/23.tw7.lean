/-! the model: what is asked of it (3) -/
theorem lg_cmp_0 {x y : Int64} : lg_cmp x y = 0 ↔ x = y := by
  unfold lg_cmp
  constructor
  · intro h
    split at h
    · exact absurd h (by decide)
    · split at h
      · assumption
      · exact absurd h (by decide)
  · intro h
    subst h
    rw [if_neg Int64.lt_irrefl, if_pos rfl]
def tlook (g : Nat → Int32) (bk : Nat → Nat) : Nat → Nat → Int32
  | 0, _ => -5
  | n + 1, i => if nI (wh g (bk i)) = g (3237 + 2 * i + 1) then tlook g bk n (i + 1) else nI i
theorem tw_looked {K : JK} {l : Launch} {hE : JIH} {A : Nat} {g sv kp go tx ac ky wt mn ts tz : Nat → Int32} {tp : Nat → Nat → Int64} {mv : Nat → Int64} {i0 i1 i2 i3 i4 i5 : Int32} (F : JF K) (T : TwR K hE A g sv kp go tx ac ky wt mn ts tz tp mv i0 i1 i2 i3 i4 i5) (hw : WG g) {b : Nat} (hb : b ≤ 8) (hg : g 3236 = nI b) {bk : Nat → Nat} (hbk : ∀ i, i < b → bk i < 400 ∧ g (3237 + 2 * i) = nI (bk i)) :
    Ct K l yX5_looked wX5_looked 5 [.ref A] hE (jRi (fun r0 h' => r0 = tlook g bk b 0 ∧ hE = h')) jNo := by
  refine st_X5_looked (ls := [some (.ref A), none]) F rfl (body := fun M X => ?_)
  have S := T.S
  have loop : ∀ n i, i + n = b → tlook g bk n i = tlook g bk b 0 → J M hE 2 [some (.ref A), some (.int (nI i))] [] := by
    intro n
    induction n with
    | zero =>
      intro i hi e
      refine J.iload1 X dX5_looked_2 ?_
      refine J.aload0 X dX5_looked_3 ?_
      refine J.getf X dX5_looked_4 fl_X5_11_X5 (S.o) rfl ?_
      refine J.sipush (v := nI 3236) X dX5_looked_7 (by decide) ?_
      refine J.iald X dX5_looked_10 (S.r_g) (rfl) (by omega) ?_
      refine J.topi (y := nI (b)) (hg) ?_
      refine J.icmp_geN (tgt := 58) X dX5_looked_11 (by decide) (by omega) (by omega) (fun _ => ?_) (fun q9 => absurd q9 (by omega))
      refine J.bipush (v := -5) X dX5_looked_58 (by decide) ?_
      refine J.zreturn X dX5_looked_60 (rfl) (jRi.of ?_)
      exact ⟨e, rfl⟩
    | succ n ih =>
      intro i hi e
      obtain ⟨h1, h2⟩ := hbk i (by omega)
      replace e : (if nI (wh g (bk i)) = g (3237 + 2 * i + 1) then tlook g bk n (i + 1) else nI i) = tlook g bk b 0 := e
      refine J.iload1 X dX5_looked_2 ?_
      refine J.aload0 X dX5_looked_3 ?_
      refine J.getf X dX5_looked_4 fl_X5_11_X5 (S.o) rfl ?_
      refine J.sipush (v := nI 3236) X dX5_looked_7 (by decide) ?_
      refine J.iald X dX5_looked_10 (S.r_g) (rfl) (by omega) ?_
      refine J.topi (y := nI (b)) (hg) ?_
      refine J.icmp_geN (tgt := 58) X dX5_looked_11 (by decide) (by omega) (by omega) (fun q9 => absurd q9 (by omega)) (fun _ => ?_)
      refine J.aload0 X dX5_looked_14 ?_
      refine J.getf X dX5_looked_15 fl_X5_11_X5 (S.o) rfl ?_
      refine J.iconst (v := nI 0) X dX5_looked_18 (by decide) ?_
      refine J.aload0 X dX5_looked_19 ?_
      refine J.getf X dX5_looked_20 fl_X5_11_X5 (S.o) rfl ?_
      refine J.sipush (v := nI 3237) X dX5_looked_23 (by decide) ?_
      refine J.iconst (v := nI 2) X dX5_looked_26 (by decide) ?_
      refine J.iload1 X dX5_looked_27 ?_
      refine J.imulN X dX5_looked_28 ?_
      refine J.iaddN X dX5_looked_29 ?_
      refine J.iald X dX5_looked_30 (S.r_g) (rfl) (by omega) ?_
      refine J.topi (y := nI (bk i)) (h2) ?_
      refine J.iadd0N X dX5_looked_31 ?_
      refine J.iald X dX5_looked_32 (S.r_g) (rfl) (by omega) ?_
      refine J.topi (y := nI (wh g (bk i))) ((hw _ h1).2) ?_
      refine J.aload0 X dX5_looked_33 ?_
      refine J.getf X dX5_looked_34 fl_X5_11_X5 (S.o) rfl ?_
      refine J.sipush (v := nI 3237) X dX5_looked_37 (by decide) ?_
      refine J.iconst (v := nI 2) X dX5_looked_40 (by decide) ?_
      refine J.iload1 X dX5_looked_41 ?_
      refine J.imulN X dX5_looked_42 ?_
      refine J.iaddN X dX5_looked_43 ?_
      refine J.iconst (v := nI 1) X dX5_looked_44 (by decide) ?_
      refine J.iaddN X dX5_looked_45 ?_
      refine J.iald X dX5_looked_46 (S.r_g) (rfl) (by omega) ?_
      refine J.icmp_eq (tgt := 52) X dX5_looked_47 (by decide) (fun c2 => ?_) (fun c2 => ?_)
      · skip
        rw [if_pos c2] at e
        refine J.iinc1N (d := 1) X dX5_looked_52 (by decide) ?_
        refine J.goto (tgt := 2) X dX5_looked_55 (by decide) ?_
        exact ih _ (by omega) e
      · skip
        rw [if_neg c2] at e
        refine J.iload1 X dX5_looked_50 ?_
        refine J.zreturn X dX5_looked_51 (rfl) (jRi.of ?_)
        exact ⟨e, rfl⟩
  refine J.iconst (v := nI 0) X dX5_looked_0 (by decide) ?_
  refine J.istore1 X dX5_looked_1 ?_
  exact loop b 0 (by omega) rfl
theorem tw_isTrace {K : JK} {l : Launch} {hE : JIH} {A : Nat} {g sv kp go tx ac ky wt mn ts tz : Nat → Int32} {tp : Nat → Nat → Int64} {mv : Nat → Int64} {i0 i1 i2 i4 i5 : Int32} (F : JF K) {c : Nat} (T : TwR K hE A g sv kp go tx ac ky wt mn ts tz tp mv i0 i1 i2 (nI c) i4 i5) (t : Int32) :
    Ct K l yX5_isTrace wX5_isTrace 1 [.ref A, .int t] hE (jRi (fun r0 h' => r0 = jB (nI 0 ≤ t ∧ t ≤ nI c - nI 1) ∧ hE = h')) jNo := by
  refine st_X5_isTrace (ls := [some (.ref A), some (.int t)]) F rfl (body := fun M X => ?_)
  have S := T.S
  refine J.iload1 X dX5_isTrace_0 ?_
  refine J.iconst (v := nI 0) X dX5_isTrace_1 (by decide) ?_
  refine J.aload0 X dX5_isTrace_2 ?_
  refine J.getf X dX5_isTrace_3 fl_X5_139_X5 (S.o) rfl ?_
  refine J.iconst (v := nI 1) X dX5_isTrace_6 (by decide) ?_
  refine J.isub X dX5_isTrace_7 ?_
  refine J.callSi X dX5_isTrace_8 lk_X5_54 ce_X5_in (tw_in F t 0 (nI c - nI 1)) (by decide) rfl (fun r h' e _ => ?_)
  obtain ⟨rfl, rfl⟩ := e
  refine J.zreturn X dX5_isTrace_11 (jB_n) (jRi.of ?_)
  exact ⟨rfl, rfl⟩
theorem trace_nat {t : Int32} {c : Nat} (hc : c ≤ 6) (h : nI 0 ≤ t ∧ t ≤ nI c - nI 1) : ∃ j, j < c ∧ t = nI j := by
  cases c with
  | zero =>
    exact absurd (Int32.le_trans h.1 h.2) (by decide)
  | succ c =>
    rw [pk_sub (by omega)] at h
    obtain ⟨j, hj, rfl⟩ := in_nat (m := c + 1 - 1) (by omega) (by decide) h
    exact ⟨j, by omega, rfl⟩
theorem nat_trace {j c : Nat} (hc : c ≤ 6) (h : j < c) : nI 0 ≤ nI j ∧ nI j ≤ nI c - nI 1 := by
  rw [pk_sub (by omega)]
  exact ⟨nI_pos' (by omega), nI_le (by omega) (by omega)⟩
def trunAR (f : Nat) (ac ky wt mn : Nat → Int32) (c : Nat) (g go : Nat → Int32) (n : Nat) (t : Int32) (r : Int32) (g' go' : Nat → Int32) (n' : Nat) : Prop :=
  (¬ (nI 0 ≤ t ∧ t ≤ nI c - nI 1) ∧ r = -1 ∧ tSame g go n g' go' n') ∨ ∃ j m, j < c ∧ t = nI j ∧ m ≤ 20 ∧ mn j = nI m ∧ trunsR f ac ky wt m (j * 20) g go n g' go' n' ∧ r = g' 3209 - g 3209
theorem tw_run {K : JK} {l : Launch} {hE : JIH} {A : Nat} {g sv kp go tx ac ky wt mn ts tz : Nat → Int32} {tp : Nat → Nat → Int64} {mv : Nat → Int64} {i0 i2 i4 i5 : Int32} (F : JF K) {n c : Nat} (T : TwR K hE A g sv kp go tx ac ky wt mn ts tz tp mv i0 (nI n) i2 (nI c) i4 i5) (hc : c ≤ 6) (hw : WG g) (hn : n ≤ 400) {t r : Int32} {f : Nat} {g' go' : Nat → Int32} {n' : Nat} (hf : trunAR f ac ky wt mn c g go n t r g' go' n') :
    Ct K l yX5_run wX5_run 6 [.ref A, .int t] hE (jRi (fun r0 h' => r0 = r ∧ TwS K hE h' A (g') sv kp (go') tx ac ky wt mn ts tz tp mv i0 (nI n') i2 (nI c) i4 i5)) jNo := by
  refine st_X5_run (ls := [some (.ref A), some (.int t)]) F rfl (body := fun M X => ?_)
  have S := T.S
  refine J.aload0 X dX5_run_0 ?_
  refine J.iload1 X dX5_run_1 ?_
  refine J.callVi X dX5_run_2 lk_X5_145_X5 ce_X5_isTrace (tw_isTrace F S.1 t) (by decide) rfl (S.o) rfl (fun r h' e _ => ?_)
  obtain ⟨rfl, rfl⟩ := e
  refine J.if_eqB (tgt := 16) X dX5_run_5 (by decide) (fun c1 => ?_) (fun c1 => ?_)
  · skip
    refine J.iconst (v := -1) X dX5_run_16 (by decide) ?_
    refine J.zreturn X dX5_run_17 (rfl) (jRi.of ?_)
    rcases hf with ⟨-, e1, e2, e3, e4⟩ | ⟨j, m, hj, rfl, -⟩
    · subst e2; subst e3; subst e4; exact ⟨e1.symm, S⟩
    · exact absurd (nat_trace hc hj) c1
  · skip
    rcases hf with ⟨e, -⟩ | ⟨j, m, hj, rfl, hm, hmn, hf, rfl⟩
    · exact absurd c1 e
    refine J.aload0 X dX5_run_8 ?_
    refine J.iload1 X dX5_run_9 ?_
    refine J.callVi X dX5_run_10 lk_X5_148_X5 ce_X5_runs (tw_runs F S.1 hw hn (by omega) hmn hm hf) (by decide) rfl (S.o) rfl (fun r h' z _ => ?_)
    obtain ⟨rfl, S'⟩ := z
    refine J.goto (tgt := 17) X dX5_run_13 (by decide) ?_
    refine J.zreturn X dX5_run_17 (rfl) (jRi.of ?_)
    exact ⟨rfl, S'⟩
def tcount (g : Nat → Int32) (x c m : Nat) (a : Int32) (r : Int32) : Prop := (¬ (nI 0 ≤ a ∧ a ≤ nI 6) ∧ r = -2) ∨ ∃ j, j ≤ 6 ∧ a = nI j ∧ r = if j < 4 then nI (tmany g (j + 1) 400) else if j = 4 then nI c else if j = 5 then nI m else nI x
theorem tw_count {K : JK} {l : Launch} {hE : JIH} {A : Nat} {g sv kp go tx ac ky wt mn ts tz : Nat → Int32} {tp : Nat → Nat → Int64} {mv : Nat → Int64} {i0 i1 i4 i5 : Int32} (F : JF K) {x c m : Nat} (T : TwR K hE A g sv kp go tx ac ky wt mn ts tz tp mv i0 i1 (nI x) (nI c) i4 i5) (hw : WG g) (hg : g 3236 = nI m) {a r : Int32} (hf : tcount g x c m a r) :
    Ct K l yX5_count wX5_count 5 [.ref A, .int a] hE (jRi (fun r0 h' => r0 = r ∧ hE = h')) jNo := by
  refine st_X5_count (ls := [some (.ref A), some (.int a)]) F rfl (body := fun M X => ?_)
  have S := T.S
  rcases hf with ⟨e, rfl⟩ | ⟨j, hj, rfl, rfl⟩
  · refine J.iload1 X dX5_count_0 ?_
    refine J.tsOut (tgt := 71) X dX5_count_1 (ts_out (m := 6) (by decide) e) (by decide) ?_
    refine J.bipush (v := -2) X dX5_count_71 (by decide) ?_
    refine J.zreturn X dX5_count_73 (rfl) (jRi.of ?_)
    exact ⟨rfl, rfl⟩
  · skip
    refine J.iload1 X dX5_count_0 ?_
    rcases (show j = 0 ∨ j = 1 ∨ j = 2 ∨ j = 3 ∨ j = 4 ∨ j = 5 ∨ j = 6 by omega) with rfl | rfl | rfl | rfl | rfl | rfl | rfl
    · skip
      refine J.tsIn (off := 43) (tgt := 44) X dX5_count_1 (by decide) (by decide) (by decide) (by decide) ?_
      refine J.aload0 X dX5_count_44 ?_
      refine J.iload1 X dX5_count_45 ?_
      refine J.iconst (v := nI 1) X dX5_count_46 (by decide) ?_
      refine J.iaddN X dX5_count_47 ?_
      refine J.callVi X dX5_count_48 lk_X5_158_X5 ce_X5_manyAt (tw_manyAt F S.1 hw (by omega)) (by decide) rfl (S.o) rfl (fun r h' e _ => ?_)
      obtain ⟨rfl, rfl⟩ := e
      refine J.zreturn X dX5_count_51 (rfl) (jRi.of ?_)
      exact ⟨rfl, rfl⟩
    · skip
      refine J.tsIn (off := 43) (tgt := 44) X dX5_count_1 (by decide) (by decide) (by decide) (by decide) ?_
      refine J.aload0 X dX5_count_44 ?_
      refine J.iload1 X dX5_count_45 ?_
      refine J.iconst (v := nI 1) X dX5_count_46 (by decide) ?_
      refine J.iaddN X dX5_count_47 ?_
      refine J.callVi X dX5_count_48 lk_X5_158_X5 ce_X5_manyAt (tw_manyAt F S.1 hw (by omega)) (by decide) rfl (S.o) rfl (fun r h' e _ => ?_)
      obtain ⟨rfl, rfl⟩ := e
      refine J.zreturn X dX5_count_51 (rfl) (jRi.of ?_)
      exact ⟨rfl, rfl⟩
    · skip
      refine J.tsIn (off := 43) (tgt := 44) X dX5_count_1 (by decide) (by decide) (by decide) (by decide) ?_
      refine J.aload0 X dX5_count_44 ?_
      refine J.iload1 X dX5_count_45 ?_
      refine J.iconst (v := nI 1) X dX5_count_46 (by decide) ?_
      refine J.iaddN X dX5_count_47 ?_
      refine J.callVi X dX5_count_48 lk_X5_158_X5 ce_X5_manyAt (tw_manyAt F S.1 hw (by omega)) (by decide) rfl (S.o) rfl (fun r h' e _ => ?_)
      obtain ⟨rfl, rfl⟩ := e
      refine J.zreturn X dX5_count_51 (rfl) (jRi.of ?_)
      exact ⟨rfl, rfl⟩
    · skip
      refine J.tsIn (off := 43) (tgt := 44) X dX5_count_1 (by decide) (by decide) (by decide) (by decide) ?_
      refine J.aload0 X dX5_count_44 ?_
      refine J.iload1 X dX5_count_45 ?_
      refine J.iconst (v := nI 1) X dX5_count_46 (by decide) ?_
      refine J.iaddN X dX5_count_47 ?_
      refine J.callVi X dX5_count_48 lk_X5_158_X5 ce_X5_manyAt (tw_manyAt F S.1 hw (by omega)) (by decide) rfl (S.o) rfl (fun r h' e _ => ?_)
      obtain ⟨rfl, rfl⟩ := e
      refine J.zreturn X dX5_count_51 (rfl) (jRi.of ?_)
      exact ⟨rfl, rfl⟩
    · skip
      refine J.tsIn (off := 51) (tgt := 52) X dX5_count_1 (by decide) (by decide) (by decide) (by decide) ?_
      refine J.aload0 X dX5_count_52 ?_
      refine J.getf X dX5_count_53 fl_X5_139_X5 (S.o) rfl ?_
      refine J.zreturn X dX5_count_56 (rfl) (jRi.of ?_)
      exact ⟨rfl, rfl⟩
    · skip
      refine J.tsIn (off := 56) (tgt := 57) X dX5_count_1 (by decide) (by decide) (by decide) (by decide) ?_
      refine J.aload0 X dX5_count_57 ?_
      refine J.getf X dX5_count_58 fl_X5_11_X5 (S.o) rfl ?_
      refine J.sipush (v := nI 3236) X dX5_count_61 (by decide) ?_
      refine J.iald X dX5_count_64 (S.r_g) (rfl) (by omega) ?_
      refine J.zreturn X dX5_count_65 (rfl) (jRi.of ?_)
      exact ⟨hg, rfl⟩
    · skip
      refine J.tsIn (off := 65) (tgt := 66) X dX5_count_1 (by decide) (by decide) (by decide) (by decide) ?_
      refine J.aload0 X dX5_count_66 ?_
      refine J.getf X dX5_count_67 fl_X5_124_X5 (S.o) rfl ?_
      refine J.zreturn X dX5_count_70 (rfl) (jRi.of ?_)
      exact ⟨rfl, rfl⟩
theorem tw_image {K : JK} {l : Launch} {hE : JIH} {A : Nat} {g sv kp go tx ac ky wt mn ts tz : Nat → Int32} {tp : Nat → Nat → Int64} {mv : Nat → Int64} {i0 i1 i2 i3 i4 i5 : Int32} (F : JF K) (T : TwR K hE A g sv kp go tx ac ky wt mn ts tz tp mv i0 i1 i2 i3 i4 i5) (hw : WG g) :
    Ct K l yX5_image wX5_image 5 [.ref A] hE (jRi (fun r0 h' => r0 = nI (tmany g 1 400 + tmany g 2 400) ∧ TwS K hE h' A g sv (tcp 3253 g kp) go tx ac ky wt mn ts tz tp mv (nI 1) i1 i2 i3 i4 i5)) jNo := by
  refine st_X5_image (ls := [some (.ref A)]) F rfl (body := fun M X => ?_)
  have S := T.S
  refine J.aload0 X dX5_image_0 ?_
  refine J.getf X dX5_image_1 fl_X5_11_X5 (S.o) rfl ?_
  refine J.aload0 X dX5_image_4 ?_
  refine J.getf X dX5_image_5 fl_X5_18_X5 (S.o) rfl ?_
  refine J.callSv X dX5_image_8 lk_X5_120 ce_X5_copy (tw_cp_kp F S.1) (by decide) rfl (fun h' S' _ => ?_)
  replace S := S.tr S'
  refine J.aload0 X dX5_image_11 ?_
  refine J.iconst (v := nI 1) X dX5_image_12 (by decide) ?_
  refine J.tw_i0 X dX5_image_13 (pl_X5_164_X5 _) S (rfl) (rfl) (fun h S => ?_)
  refine J.aload0 X dX5_image_16 ?_
  refine J.iconst (v := nI 1) X dX5_image_17 (by decide) ?_
  refine J.callVi X dX5_image_18 lk_X5_158_X5 ce_X5_manyAt (tw_manyAt F S.1 hw (by omega)) (by decide) rfl (S.o) rfl (fun r h' e _ => ?_)
  obtain ⟨rfl, rfl⟩ := e
  refine J.aload0 X dX5_image_21 ?_
  refine J.iconst (v := nI 2) X dX5_image_22 (by decide) ?_
  refine J.callVi X dX5_image_23 lk_X5_158_X5 ce_X5_manyAt (tw_manyAt F S.1 hw (by omega)) (by decide) rfl (S.o) rfl (fun r h' e _ => ?_)
  obtain ⟨rfl, rfl⟩ := e
  refine J.iaddN X dX5_image_26 ?_
  refine J.zreturn X dX5_image_27 (rfl) (jRi.of ?_)
  exact ⟨rfl, S⟩
def tundoAR (g kp : Nat → Int32) (i : Int32) (r : Int32) (g' : Nat → Int32) : Prop := (i = 0 ∧ r = -3 ∧ g' = g) ∨ (¬ i = 0 ∧ WG kp ∧ g' = tcp 3253 kp g ∧ r = nI (tmany g' 1 400 + tmany g' 2 400))
theorem tw_undo {K : JK} {l : Launch} {hE : JIH} {A : Nat} {g sv kp go tx ac ky wt mn ts tz : Nat → Int32} {tp : Nat → Nat → Int64} {mv : Nat → Int64} {i0 i1 i2 i3 i4 i5 : Int32} (F : JF K) (T : TwR K hE A g sv kp go tx ac ky wt mn ts tz tp mv i0 i1 i2 i3 i4 i5) {r : Int32} {g' : Nat → Int32} (hf : tundoAR g kp i0 r g') :
    Ct K l yX5_undo wX5_undo 5 [.ref A] hE (jRi (fun r0 h' => r0 = r ∧ TwS K hE h' A (g') sv kp go tx ac ky wt mn ts tz tp mv i0 i1 i2 i3 i4 i5)) jNo := by
  refine st_X5_undo (ls := [some (.ref A)]) F rfl (body := fun M X => ?_)
  have S := T.S
  refine J.aload0 X dX5_undo_0 ?_
  refine J.getf X dX5_undo_1 fl_X5_164_X5 (S.o) rfl ?_
  refine J.if_ne (tgt := 10) X dX5_undo_4 (by decide) (fun c1 => ?_) (fun c1 => ?_)
  · skip
    rcases hf with ⟨e, -⟩ | ⟨-, hw, rfl, rfl⟩
    · exact absurd e c1
    refine J.aload0 X dX5_undo_10 ?_
    refine J.getf X dX5_undo_11 fl_X5_18_X5 (S.o) rfl ?_
    refine J.aload0 X dX5_undo_14 ?_
    refine J.getf X dX5_undo_15 fl_X5_11_X5 (S.o) rfl ?_
    refine J.callSv X dX5_undo_18 lk_X5_120 ce_X5_copy (tw_cp_kg F S.1) (by decide) rfl (fun h' S' _ => ?_)
    replace S := S.tr S'
    refine J.aload0 X dX5_undo_21 ?_
    refine J.iconst (v := nI 1) X dX5_undo_22 (by decide) ?_
    refine J.callVi X dX5_undo_23 lk_X5_158_X5 ce_X5_manyAt (tw_manyAt F S.1 (hw.cp g) (by omega)) (by decide) rfl (S.o) rfl (fun r h' e _ => ?_)
    obtain ⟨rfl, rfl⟩ := e
    refine J.aload0 X dX5_undo_26 ?_
    refine J.iconst (v := nI 2) X dX5_undo_27 (by decide) ?_
    refine J.callVi X dX5_undo_28 lk_X5_158_X5 ce_X5_manyAt (tw_manyAt F S.1 (hw.cp g) (by omega)) (by decide) rfl (S.o) rfl (fun r h' e _ => ?_)
    obtain ⟨rfl, rfl⟩ := e
    refine J.iaddN X dX5_undo_31 ?_
    refine J.zreturn X dX5_undo_32 (rfl) (jRi.of ?_)
    exact ⟨rfl, S⟩
  · skip
    rcases hf with ⟨-, rfl, rfl⟩ | ⟨e, -⟩
    · refine J.bipush (v := -3) X dX5_undo_7 (by decide) ?_
      refine J.zreturn X dX5_undo_9 (rfl) (jRi.of ?_)
      exact ⟨rfl, S⟩
    · exact absurd c1 e
def tfeedAR (m : Nat) (tx : Nat → Int32) (s : Int32) (r : Int32) (m' : Nat) (tx' : Nat → Int32) : Prop :=
  (¬ (nI 0 ≤ s ∧ s ≤ nI 127) ∧ r = -2 ∧ m' = m ∧ tx' = tx) ∨ ((nI 0 ≤ s ∧ s ≤ nI 127) ∧ m = 100 ∧ r = -4 ∧ m' = m ∧ tx' = tx) ∨ ((nI 0 ≤ s ∧ s ≤ nI 127) ∧ m < 100 ∧ r = nI (m + 1) ∧ m' = m + 1 ∧ tx' = upd tx m s)
theorem tw_feed {K : JK} {l : Launch} {hE : JIH} {A : Nat} {g sv kp go tx ac ky wt mn ts tz : Nat → Int32} {tp : Nat → Nat → Int64} {mv : Nat → Int64} {i0 i1 i3 i4 i5 : Int32} (F : JF K) {m : Nat} (T : TwR K hE A g sv kp go tx ac ky wt mn ts tz tp mv i0 i1 (nI m) i3 i4 i5) {s r : Int32} {m' : Nat} {tx' : Nat → Int32} (hf : tfeedAR m tx s r m' tx') :
    Ct K l yX5_feed wX5_feed 5 [.ref A, .int s] hE (jRi (fun r0 h' => r0 = r ∧ TwS K hE h' A g sv kp go (tx') ac ky wt mn ts tz tp mv i0 i1 (nI m') i3 i4 i5)) jNo := by
  refine st_X5_feed (ls := [some (.ref A), some (.int s)]) F rfl (body := fun M X => ?_)
  have S := T.S
  refine J.iload1 X dX5_feed_0 ?_
  refine J.iconst (v := nI 0) X dX5_feed_1 (by decide) ?_
  refine J.bipush (v := nI 127) X dX5_feed_2 (by decide) ?_
  refine J.callSi X dX5_feed_4 lk_X5_54 ce_X5_in (tw_in F s 0 127) (by decide) rfl (fun r h' e _ => ?_)
  obtain ⟨rfl, rfl⟩ := e
  refine J.if_neB (tgt := 13) X dX5_feed_7 (by decide) (fun c1 => ?_) (fun c1 => ?_)
  · skip
    rcases hf with ⟨e, -⟩ | ⟨-, rfl, rfl, rfl, rfl⟩ | ⟨-, hm, rfl, rfl, rfl⟩
    · exact absurd c1 e
    · skip
      refine J.aload0 X dX5_feed_13 ?_
      refine J.getf X dX5_feed_14 fl_X5_124_X5 (S.o) rfl ?_
      refine J.bipush (v := nI 100) X dX5_feed_17 (by decide) ?_
      refine J.icmp_neN (tgt := 25) X dX5_feed_19 (by decide) (by omega) (by omega) (fun q9 => absurd q9 (by omega)) (fun _ => ?_)
      refine J.bipush (v := -4) X dX5_feed_22 (by decide) ?_
      refine J.zreturn X dX5_feed_24 (rfl) (jRi.of ?_)
      exact ⟨rfl, S⟩
    · refine J.aload0 X dX5_feed_13 ?_
      refine J.getf X dX5_feed_14 fl_X5_124_X5 (S.o) rfl ?_
      refine J.bipush (v := nI 100) X dX5_feed_17 (by decide) ?_
      refine J.icmp_neN (tgt := 25) X dX5_feed_19 (by decide) (by omega) (by omega) (fun _ => ?_) (fun q9 => absurd q9 (by omega))
      refine J.aload0 X dX5_feed_25 ?_
      refine J.getf X dX5_feed_26 fl_X5_24_X5 (S.o) rfl ?_
      refine J.aload0 X dX5_feed_29 ?_
      refine J.dup X dX5_feed_30 ?_
      refine J.getf X dX5_feed_31 fl_X5_124_X5 (S.o) rfl ?_
      refine J.dup_x1 X dX5_feed_34 ?_
      refine J.iconst (v := nI 1) X dX5_feed_35 (by decide) ?_
      refine J.iaddN X dX5_feed_36 ?_
      refine J.tw_i2 X dX5_feed_37 (pl_X5_124_X5 _) S (rfl) (rfl) (fun h S => ?_)
      refine J.iload1 X dX5_feed_40 ?_
      refine J.tw_tx X dX5_feed_41 S (rfl) (by omega) (fun h S => ?_)
      refine J.aload0 X dX5_feed_42 ?_
      refine J.at (pc' := 43) rfl ?_
      refine J.getf X dX5_feed_43 fl_X5_124_X5 (S.o) rfl ?_
      refine J.zreturn X dX5_feed_46 (rfl) (jRi.of ?_)
      exact ⟨rfl, S⟩
  · skip
    rcases hf with ⟨-, rfl, rfl, rfl⟩ | ⟨e, -⟩ | ⟨e, -⟩
    · refine J.bipush (v := -2) X dX5_feed_10 (by decide) ?_
      refine J.zreturn X dX5_feed_12 (rfl) (jRi.of ?_)
      exact ⟨rfl, S⟩
    · exact absurd e c1
    · exact absurd e c1
theorem tw_common {K : JK} {l : Launch} {hE : JIH} (F : JF K) {a b : Nat} (ha : a < 2147483648) (hb : b < 2147483648) :
    Ct K l yX5_common wX5_common 0 [.int (nI a), .int (nI b)] hE (jRi (fun r0 h' => r0 = nI (Nat.gcd a b) ∧ hE = h')) jNo := by
  refine st_X5_common (ls := [some (.int (nI a)), some (.int (nI b)), none, none, none]) F rfl (body := fun M X => ?_)
  have loop : ∀ (n x y : Nat) (z : Option Value), y < n → x < 2147483648 → y < 2147483648 → Nat.gcd x y = Nat.gcd a b → J M hE 4 [some (.int (nI a)), some (.int (nI b)), some (.int (nI x)), some (.int (nI y)), z] [] := by
    intro n
    induction n with
    | zero => intro x y z h; omega
    | succ n ih =>
      intro x y z hn hx hy e
      refine J.iload3 X dX5_common_4 ?_
      refine J.if_eqN (tgt := 21) X dX5_common_5 (by decide) (by omega) (fun c1 => ?_) (fun c1 => ?_)
      · skip
        refine J.iload2 X dX5_common_21 ?_
        refine J.zreturn X dX5_common_22 (rfl) (jRi.of ?_)
        subst c1
        rw [Nat.gcd_zero_right] at e
        exact ⟨by rw [e], rfl⟩
      · skip
        refine J.iload2 X dX5_common_8 ?_
        refine J.iload3 X dX5_common_9 ?_
        refine J.irem X dX5_common_10 (fun z => c1 ((nI_z hy).mp z)) ?_
        refine J.topi (y := nI (x % y)) (pk_rem hx (by omega) hy) ?_
        refine J.istore4 X dX5_common_11 ?_
        refine J.iload3 X dX5_common_13 ?_
        refine J.istore2 X dX5_common_14 ?_
        refine J.iload4 X dX5_common_15 ?_
        refine J.istore3 X dX5_common_17 ?_
        refine J.goto (tgt := 4) X dX5_common_18 (by decide) ?_
        have h1 : x % y < y := Nat.mod_lt _ (by omega)
        exact ih y (x % y) _ (by omega) hy (by omega) (by rw [← e, Nat.gcd_comm x y, Nat.gcd_rec y x, Nat.gcd_comm])
  refine J.iload0 X dX5_common_0 ?_
  refine J.istore2 X dX5_common_1 ?_
  refine J.iload1 X dX5_common_2 ?_
  refine J.istore3 X dX5_common_3 ?_
  exact loop (b + 1) a b _ (by omega) ha hb rfl
theorem tw_part {K : JK} {l : Launch} {hE : JIH} (F : JF K) {a b p : Nat} (ha : a < 2147483648) (hb : b < 2147483648) (hb0 : 0 < b) (hp : p < 2) :
    Ct K l yX5_part wX5_part 1 [.int (nI a), .int (nI b), .int (nI p)] hE (jRl (fun r0 h' => r0 = lN ((if p = 0 then a else b) / Nat.gcd a b) ∧ hE = h')) jNo := by
  refine st_X5_part (ls := [some (.int (nI a)), some (.int (nI b)), some (.int (nI p)), none]) F rfl (body := fun M X => ?_)
  have hg0 : 0 < Nat.gcd a b := Nat.gcd_pos_of_pos_right _ hb0
  have hg1 : Nat.gcd a b < 2147483648 := Nat.lt_of_le_of_lt (Nat.gcd_le_right _ hb0) hb
  have hne : ¬ nI (Nat.gcd a b) = 0 := fun z => by have := (nI_z hg1).mp z; omega
  refine J.iload0 X dX5_part_0 ?_
  refine J.iload1 X dX5_part_1 ?_
  refine J.callSi X dX5_part_2 lk_X5_151 ce_X5_common (tw_common F ha hb) (by decide) rfl (fun r h' e _ => ?_)
  obtain ⟨rfl, rfl⟩ := e
  refine J.istore3 X dX5_part_5 ?_
  refine J.iload2 X dX5_part_6 ?_
  refine J.if_neN (tgt := 17) X dX5_part_7 (by decide) (by omega) (fun c1 => ?_) (fun c1 => ?_)
  · skip
    refine J.iload1 X dX5_part_17 ?_
    refine J.iload3 X dX5_part_18 ?_
    refine J.idiv X dX5_part_19 (hne) ?_
    refine J.topi (y := nI (b / Nat.gcd a b)) (pk_div hb hg0 hg1) ?_
    refine J.i2l X dX5_part_20 ?_
    refine J.topl (nI_l (Nat.lt_of_le_of_lt (Nat.div_le_self _ _) hb)) ?_
    refine J.lreturn X dX5_part_21 (jRl.of ?_)
    exact ⟨by rw [if_neg c1], rfl⟩
  · skip
    refine J.iload0 X dX5_part_10 ?_
    refine J.iload3 X dX5_part_11 ?_
    refine J.idiv X dX5_part_12 (hne) ?_
    refine J.topi (y := nI (a / Nat.gcd a b)) (pk_div ha hg0 hg1) ?_
    refine J.i2l X dX5_part_13 ?_
    refine J.topl (nI_l (Nat.lt_of_le_of_lt (Nat.div_le_self _ _) ha)) ?_
    refine J.goto (tgt := 21) X dX5_part_14 (by decide) ?_
    refine J.lreturn X dX5_part_21 (jRl.of ?_)
    exact ⟨by rw [if_pos c1], rfl⟩
