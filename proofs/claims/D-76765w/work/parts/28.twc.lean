/-! the model: traces read -/
abbrev tPt : Type := Nat × Option Nat
def tpSees (tx : Nat → Int32) (m : Nat) (lo hi : Int32) (p : tPt) : Prop := p.2 = none ∧ p.1 < m ∧ (lo ≤ tx p.1 ∧ tx p.1 ≤ hi)
def tpDec (tx : Nat → Int32) (m : Nat) (lo hi : Int32) (p : tPt) : Decidable (tpSees tx m lo hi p) := by unfold tpSees; exact inferInstance
noncomputable def tpMust (tx : Nat → Int32) (m : Nat) (lo hi : Int32) (p : tPt) : Int32 × tPt := @ite _ (tpSees tx m lo hi p) (tpDec tx m lo hi p) (tx p.1, p.1 + 1, p.2) (lo, p.1, some (p.2.getD p.1))
theorem tpMust_t {tx : Nat → Int32} {m : Nat} {lo hi : Int32} {p : tPt} (h : tpSees tx m lo hi p) : tpMust tx m lo hi p = (tx p.1, p.1 + 1, p.2) := if_pos h
theorem tpMust_f {tx : Nat → Int32} {m : Nat} {lo hi : Int32} {p : tPt} (h : ¬ tpSees tx m lo hi p) : tpMust tx m lo hi p = (lo, p.1, some (p.2.getD p.1)) := if_neg h
def tpOk (m : Nat) (p : tPt) : Prop := p.1 ≤ m ∧ ∀ b, p.2 = some b → b ≤ m
theorem tpOk.must {tx : Nat → Int32} {m : Nat} {p : tPt} (h : tpOk m p) (lo hi : Int32) : tpOk m (tpMust tx m lo hi p).2 := by
  by_cases q : tpSees tx m lo hi p
  · rw [tpMust_t q]
    exact ⟨q.2.1, h.2⟩
  · rw [tpMust_f q]
    refine ⟨h.1, fun b hb => ?_⟩
    cases hp : p.2 with
    | none => rw [hp] at hb; cases hb; exact h.1
    | some c => rw [hp] at hb; cases hb; exact h.2 _ hp
theorem bI_neg {o : Option Nat} (h : ∀ b, o = some b → b < 2147483648) : bI o < 0 ↔ o = none := by
  cases o with
  | none => exact ⟨fun _ => rfl, fun _ => by decide⟩
  | some b => exact ⟨fun z => absurd z (nI_pos (h b rfl)), fun z => by cases z⟩
theorem tw_sees {K : JK} {l : Launch} {hE : JIH} {A : Nat} {g sv kp go tx ac ky wt mn ts tz : Nat → Int32} {tp : Nat → Nat → Int64} {mv : Nat → Int64} {i0 i1 i3 : Int32} (F : JF K) {m : Nat} {p : tPt} (T : TwR K hE A g sv kp go tx ac ky wt mn ts tz tp mv i0 i1 (nI m) i3 (nI p.1) (bI p.2)) (hm : m ≤ 100) (hp : tpOk m p) (lo hi : Int32) [Decidable (tpSees tx m lo hi p)] :
    Ct K l yX5_sees wX5_sees 1 [.ref A, .int lo, .int hi] hE (jRi (fun r0 h' => r0 = jB (tpSees tx m lo hi p) ∧ hE = h')) jNo := by
  refine st_X5_sees (ls := [some (.ref A), some (.int lo), some (.int hi)]) F rfl (body := fun M X => ?_)
  have S := T.S
  have hp1 := hp.1
  refine J.aload0 X dX5_sees_0 ?_
  refine J.getf X dX5_sees_1 fl_X5_127_X5 (S.o) rfl ?_
  refine J.if_ge (tgt := 39) X dX5_sees_4 (by decide) (fun c1 => ?_) (fun c1 => ?_)
  · skip
    refine J.iconst (v := nI 0) X dX5_sees_39 (by decide) ?_
    refine J.zreturn X dX5_sees_40 (rfl) (jRi.of ?_)
    refine ⟨jB_0 (fun z => ?_), rfl⟩
    rw [z.1] at c1
    exact absurd c1 (by decide)
  · skip
    have hf : p.2 = none := (bI_neg (fun b hb => by have := hp.2 b hb; omega)).mp (Int32.not_le.mp c1)
    refine J.aload0 X dX5_sees_7 ?_
    refine J.getf X dX5_sees_8 fl_X5_130_X5 (S.o) rfl ?_
    refine J.aload0 X dX5_sees_11 ?_
    refine J.getf X dX5_sees_12 fl_X5_124_X5 (S.o) rfl ?_
    refine J.icmp_geN (tgt := 39) X dX5_sees_15 (by decide) (by omega) (by omega) (fun c2 => ?_) (fun c2 => ?_)
    · skip
      refine J.iconst (v := nI 0) X dX5_sees_39 (by decide) ?_
      refine J.zreturn X dX5_sees_40 (rfl) (jRi.of ?_)
      exact ⟨jB_0 (fun z => by have := z.2.1; omega), rfl⟩
    · skip
      refine J.aload0 X dX5_sees_18 ?_
      refine J.getf X dX5_sees_19 fl_X5_24_X5 (S.o) rfl ?_
      refine J.aload0 X dX5_sees_22 ?_
      refine J.getf X dX5_sees_23 fl_X5_130_X5 (S.o) rfl ?_
      refine J.iald X dX5_sees_26 (S.r_tx) (rfl) (by omega) ?_
      refine J.iload1 X dX5_sees_27 ?_
      refine J.iload2 X dX5_sees_28 ?_
      refine J.callSi X dX5_sees_29 lk_X5_54 ce_X5_in (tw_in F (tx p.1) lo hi) (by decide) rfl (fun r h' e _ => ?_)
      obtain ⟨rfl, rfl⟩ := e
      refine J.if_eqB (tgt := 39) X dX5_sees_32 (by decide) (fun c3 => ?_) (fun c3 => ?_)
      · skip
        refine J.iconst (v := nI 0) X dX5_sees_39 (by decide) ?_
        refine J.zreturn X dX5_sees_40 (rfl) (jRi.of ?_)
        exact ⟨jB_0 (fun z => c3 z.2.2), rfl⟩
      · skip
        refine J.iconst (v := nI 1) X dX5_sees_35 (by decide) ?_
        refine J.goto (tgt := 40) X dX5_sees_36 (by decide) ?_
        refine J.zreturn X dX5_sees_40 (rfl) (jRi.of ?_)
        exact ⟨jB_1 ⟨hf, c2, c3⟩, rfl⟩
theorem tw_must {K : JK} {l : Launch} {hE : JIH} {A : Nat} {g sv kp go tx ac ky wt mn ts tz : Nat → Int32} {tp : Nat → Nat → Int64} {mv : Nat → Int64} {i0 i1 i3 : Int32} (F : JF K) {m : Nat} {p : tPt} (T : TwR K hE A g sv kp go tx ac ky wt mn ts tz tp mv i0 i1 (nI m) i3 (nI p.1) (bI p.2)) (hm : m ≤ 100) (hp : tpOk m p) (lo hi : Int32) :
    Ct K l yX5_must wX5_must 2 [.ref A, .int lo, .int hi] hE (jRi (fun r0 h' => r0 = (tpMust tx m lo hi p).1 ∧ TwS K hE h' A g sv kp go tx ac ky wt mn ts tz tp mv i0 i1 (nI m) i3 (nI (tpMust tx m lo hi p).2.1) (bI (tpMust tx m lo hi p).2.2))) jNo := by
  refine st_X5_must (ls := [some (.ref A), some (.int lo), some (.int hi)]) F rfl (body := fun M X => ?_)
  have S := T.S
  have hp1 := hp.1
  haveI := tpDec tx m lo hi p
  refine J.aload0 X dX5_must_0 ?_
  refine J.iload1 X dX5_must_1 ?_
  refine J.iload2 X dX5_must_2 ?_
  refine J.callVi X dX5_must_3 lk_X5_133_X5 ce_X5_sees (tw_sees F S.1 hm hp lo hi) (by decide) rfl (S.o) rfl (fun r h' e _ => ?_)
  obtain ⟨rfl, rfl⟩ := e
  refine J.if_neB (tgt := 33) X dX5_must_6 (by decide) (fun c1 => ?_) (fun c1 => ?_)
  · skip
    have hlt := c1.2.1
    refine J.aload0 X dX5_must_33 ?_
    refine J.getf X dX5_must_34 fl_X5_24_X5 (S.o) rfl ?_
    refine J.aload0 X dX5_must_37 ?_
    refine J.dup X dX5_must_38 ?_
    refine J.getf X dX5_must_39 fl_X5_130_X5 (S.o) rfl ?_
    refine J.dup_x1 X dX5_must_42 ?_
    refine J.iconst (v := nI 1) X dX5_must_43 (by decide) ?_
    refine J.iaddN X dX5_must_44 ?_
    refine J.tw_i4 X dX5_must_45 (pl_X5_130_X5 _) S (rfl) (rfl) (fun h S => ?_)
    refine J.iald X dX5_must_48 (S.r_tx) (rfl) (by omega) ?_
    refine J.zreturn X dX5_must_49 (rfl) (jRi.of ?_)
    rw [tpMust_t c1]
    exact ⟨rfl, S⟩
  · skip
    refine J.aload0 X dX5_must_9 ?_
    refine J.aload0 X dX5_must_10 ?_
    refine J.getf X dX5_must_11 fl_X5_127_X5 (S.o) rfl ?_
    refine J.if_ge (tgt := 24) X dX5_must_14 (by decide) (fun c2 => ?_) (fun c2 => ?_)
    · skip
      refine J.aload0 X dX5_must_24 ?_
      refine J.getf X dX5_must_25 fl_X5_127_X5 (S.o) rfl ?_
      refine J.tw_i5 X dX5_must_28 (pl_X5_127_X5 _) S (rfl) (rfl) (fun h S => ?_)
      refine J.iload1 X dX5_must_31 ?_
      refine J.zreturn X dX5_must_32 (rfl) (jRi.of ?_)
      rw [tpMust_f c1]
      cases hp2 : p.2 with
      | none => rw [hp2] at c2; exact absurd c2 (by decide)
      | some b => rw [hp2] at S; exact ⟨rfl, S⟩
    · skip
      have hf : p.2 = none := (bI_neg (fun b hb => by have := hp.2 b hb; omega)).mp (Int32.not_le.mp c2)
      refine J.aload0 X dX5_must_17 ?_
      refine J.getf X dX5_must_18 fl_X5_130_X5 (S.o) rfl ?_
      refine J.goto (tgt := 28) X dX5_must_21 (by decide) ?_
      refine J.tw_i5 X dX5_must_28 (pl_X5_127_X5 _) S (rfl) (rfl) (fun h S => ?_)
      refine J.iload1 X dX5_must_31 ?_
      refine J.zreturn X dX5_must_32 (rfl) (jRi.of ?_)
      rw [tpMust_f c1, hf]
      exact ⟨rfl, S⟩
noncomputable def tpAct (tx : Nat → Int32) (m : Nat) (p : tPt) : Int32 × tPt := @ite _ (tpSees tx m (nI 112) (nI 112) p ∨ tpSees tx m (nI 120) (nI 120) p) (Classical.propDecidable _) (tx p.1, p.1 + 1, p.2) (tpMust tx m (nI 103) (nI 103) p)
theorem tpAct_t {tx : Nat → Int32} {m : Nat} {p : tPt} (h : tpSees tx m (nI 112) (nI 112) p ∨ tpSees tx m (nI 120) (nI 120) p) : tpAct tx m p = (tx p.1, p.1 + 1, p.2) := if_pos h
theorem tpAct_f {tx : Nat → Int32} {m : Nat} {p : tPt} (h : ¬ (tpSees tx m (nI 112) (nI 112) p ∨ tpSees tx m (nI 120) (nI 120) p)) : tpAct tx m p = tpMust tx m (nI 103) (nI 103) p := if_neg h
noncomputable def tpNum (tx : Nat → Int32) (m : Nat) (p : tPt) : Int32 × tPt := @ite _ (tpSees tx m (nI 48) (nI 57) (tpMust tx m (nI 48) (nI 57) p).2) (tpDec _ _ _ _ _)
  (nI 10 * ((tpMust tx m (nI 48) (nI 57) p).1 - nI 48) + (tpMust tx m (nI 48) (nI 57) (tpMust tx m (nI 48) (nI 57) p).2).1 - nI 48, (tpMust tx m (nI 48) (nI 57) (tpMust tx m (nI 48) (nI 57) p).2).2)
  ((tpMust tx m (nI 48) (nI 57) p).1 - nI 48, (tpMust tx m (nI 48) (nI 57) p).2)
noncomputable def tpW (tx : Nat → Int32) (m : Nat) (a : Int32) (p : tPt) : Int32 × tPt := if a = nI 112 then ((tpMust tx m (nI 49) (nI 57) (tpMust tx m (nI 61) (nI 61) p).2).1 - nI 48, (tpMust tx m (nI 49) (nI 57) (tpMust tx m (nI 61) (nI 61) p).2).2) else (0, p)
theorem tpOk.act {tx : Nat → Int32} {m : Nat} {p : tPt} (h : tpOk m p) : tpOk m (tpAct tx m p).2 := by
  by_cases q : tpSees tx m (nI 112) (nI 112) p ∨ tpSees tx m (nI 120) (nI 120) p
  · rw [tpAct_t q]; exact ⟨q.elim (fun z => z.2.1) (fun z => z.2.1), h.2⟩
  · rw [tpAct_f q]; exact h.must _ _
theorem tpOk.num {tx : Nat → Int32} {m : Nat} {p : tPt} (h : tpOk m p) : tpOk m (tpNum tx m p).2 := by
  unfold tpNum
  split
  · exact (h.must _ _).must _ _
  · exact h.must _ _
theorem tpOk.w {tx : Nat → Int32} {m : Nat} {p : tPt} (h : tpOk m p) (a : Int32) : tpOk m (tpW tx m a p).2 := by
  unfold tpW
  split
  · exact (h.must _ _).must _ _
  · exact h
/-- a clause read at p: act, space, number, weight, and behind it -/
noncomputable def tpS (tx : Nat → Int32) (m : Nat) (p : tPt) : Int32 × tPt := tpMust tx m (nI 97) (nI 100) (tpAct tx m p).2
noncomputable def tpEnd (tx : Nat → Int32) (m : Nat) (p : tPt) : tPt := (tpW tx m (tpAct tx m p).1 (tpNum tx m (tpS tx m p).2).2).2
noncomputable def tpKey (tx : Nat → Int32) (m : Nat) (p : tPt) : Int32 := nI 100 * ((tpS tx m p).1 - nI 97) + (tpNum tx m (tpS tx m p).2).1
noncomputable def tpWt (tx : Nat → Int32) (m : Nat) (p : tPt) (wt : Nat → Int32) (at_ : Nat) : Nat → Int32 := if (tpAct tx m p).1 = nI 112 then upd wt at_ (tpW tx m (tpAct tx m p).1 (tpNum tx m (tpS tx m p).2).2).1 else wt
theorem tpOk.end {tx : Nat → Int32} {m : Nat} {p : tPt} (h : tpOk m p) : tpOk m (tpEnd tx m p) := ((h.act.must _ _).num).w _
theorem tw_clause {K : JK} {l : Launch} {hE : JIH} {A : Nat} {g sv kp go tx ac ky wt mn ts tz : Nat → Int32} {tp : Nat → Nat → Int64} {mv : Nat → Int64} {i0 i1 i3 : Int32} (F : JF K) {m : Nat} {p : tPt} (T : TwR K hE A g sv kp go tx ac ky wt mn ts tz tp mv i0 i1 (nI m) i3 (nI p.1) (bI p.2)) (hm : m ≤ 100) (hp : tpOk m p) {c : Nat} (hc : c < 120) :
    Ct K l yX5_clause wX5_clause 3 [.ref A, .int (nI c)] hE (jRv (fun h' => TwS K hE h' A g sv kp go tx (upd ac c (tpAct tx m p).1) (upd ky c (tpKey tx m p)) (tpWt tx m p wt c) mn ts tz tp mv i0 i1 (nI m) i3 (nI (tpEnd tx m p).1) (bI (tpEnd tx m p).2))) jNo := by
  refine st_X5_clause (ls := [some (.ref A), some (.int (nI c)), none, none, none]) F rfl (body := fun M X => ?_)
  have S := T.S
  have hp1 := hp.1
  -- from the act on
  have key : ∀ h1 : JIH, TwS K hE h1 A g sv kp go tx ac ky wt mn ts tz tp mv i0 i1 (nI m) i3 (nI (tpAct tx m p).2.1) (bI (tpAct tx m p).2.2) → J M h1 49 [some (.ref A), some (.int (nI c)), none, none, none] [.int (tpAct tx m p).1] := by
    intro h1 S
    have ha := hp.act (tx := tx)
    generalize hA : tpAct tx m p = a at S ha
    refine J.istore2 X dX5_clause_49 ?_
    refine J.aload0 X dX5_clause_50 ?_
    refine J.bipush (v := nI 97) X dX5_clause_51 (by decide) ?_
    refine J.bipush (v := nI 100) X dX5_clause_53 (by decide) ?_
    refine J.callVi X dX5_clause_55 lk_X5_136_X5 ce_X5_must (tw_must F S.1 hm ha (nI 97) (nI 100)) (by decide) rfl (S.o) rfl (fun r h' z _ => ?_)
    obtain ⟨rfl, S'⟩ := z
    replace S := S.tr S'
    have hs := ha.must (tx := tx) (nI 97) (nI 100)
    have hS : tpMust tx m (nI 97) (nI 100) a.2 = tpS tx m p := by unfold tpS; rw [hA]
    rw [hS] at S hs
    rw [hS]
    generalize hSs : tpS tx m p = s at S hs
    refine J.bipush (v := nI 97) X dX5_clause_58 (by decide) ?_
    refine J.isub X dX5_clause_60 ?_
    refine J.istore3 X dX5_clause_61 ?_
    refine J.aload0 X dX5_clause_62 ?_
    refine J.bipush (v := nI 48) X dX5_clause_63 (by decide) ?_
    refine J.bipush (v := nI 57) X dX5_clause_65 (by decide) ?_
    refine J.callVi X dX5_clause_67 lk_X5_136_X5 ce_X5_must (tw_must F S.1 hm hs (nI 48) (nI 57)) (by decide) rfl (S.o) rfl (fun r h' z _ => ?_)
    obtain ⟨rfl, S'⟩ := z
    replace S := S.tr S'
    have hb := hs.must (tx := tx) (nI 48) (nI 57)
    have hnum := hs.num (tx := tx)
    have fin : ∀ h1 : JIH, TwS K hE h1 A g sv kp go tx ac ky wt mn ts tz tp mv i0 i1 (nI m) i3 (nI (tpNum tx m s.2).2.1) (bI (tpNum tx m s.2).2.2) → J M h1 108 [some (.ref A), some (.int (nI c)), some (.int a.1), some (.int (s.1 - nI 97)), some (.int ((tpMust tx m (nI 48) (nI 57) s.2).1 - nI 48))] [.int (tpNum tx m s.2).1] := by
      intro h1 S
      refine J.istore4 X dX5_clause_108 ?_
      refine J.iload2 X dX5_clause_110 ?_
      refine J.bipush (v := nI 112) X dX5_clause_111 (by decide) ?_
      have hW : tpW tx m a.1 (tpNum tx m s.2).2 = tpW tx m (tpAct tx m p).1 (tpNum tx m (tpS tx m p).2).2 := by rw [hA, hSs]
      refine J.icmp_ne (tgt := 142) X dX5_clause_113 (by decide) (fun c1 => ?_) (fun c1 => ?_)
      · skip
        refine J.aload0 X dX5_clause_142 ?_
        refine J.getf X dX5_clause_143 fl_X5_27_X5 (S.o) rfl ?_
        refine J.iload1 X dX5_clause_146 ?_
        refine J.iload2 X dX5_clause_147 ?_
        refine J.tw_ac X dX5_clause_148 S (rfl) (by omega) (fun h S => ?_)
        refine J.aload0 X dX5_clause_149 ?_
        refine J.getf X dX5_clause_150 fl_X5_30_X5 (S.o) rfl ?_
        refine J.iload1 X dX5_clause_153 ?_
        refine J.bipush (v := nI 100) X dX5_clause_154 (by decide) ?_
        refine J.iload3 X dX5_clause_156 ?_
        refine J.imul X dX5_clause_157 ?_
        refine J.iload4 X dX5_clause_158 ?_
        refine J.at (pc' := 160) rfl ?_
        refine J.iadd X dX5_clause_160 ?_
        refine J.tw_ky X dX5_clause_161 S (rfl) (by omega) (fun h S => ?_)
        refine J.vreturn X dX5_clause_162 (jRv.of ?_)
        unfold tpWt tpEnd tpKey
        rw [← hW, hA, hSs, if_neg c1]
        unfold tpW
        rw [if_neg c1]
        exact S
      · skip
        refine J.aload0 X dX5_clause_116 ?_
        refine J.bipush (v := nI 61) X dX5_clause_117 (by decide) ?_
        refine J.bipush (v := nI 61) X dX5_clause_119 (by decide) ?_
        refine J.callVi X dX5_clause_121 lk_X5_136_X5 ce_X5_must (tw_must F S.1 hm hnum (nI 61) (nI 61)) (by decide) rfl (S.o) rfl (fun r h' z _ => ?_)
        obtain ⟨-, S'⟩ := z
        replace S := S.tr S'
        have hb2 := hnum.must (tx := tx) (nI 61) (nI 61)
        refine J.pop X dX5_clause_124 ?_
        refine J.aload0 X dX5_clause_125 ?_
        refine J.getf X dX5_clause_126 fl_X5_33_X5 (S.o) rfl ?_
        refine J.iload1 X dX5_clause_129 ?_
        refine J.aload0 X dX5_clause_130 ?_
        refine J.bipush (v := nI 49) X dX5_clause_131 (by decide) ?_
        refine J.bipush (v := nI 57) X dX5_clause_133 (by decide) ?_
        refine J.callVi X dX5_clause_135 lk_X5_136_X5 ce_X5_must (tw_must F S.1 hm hb2 (nI 49) (nI 57)) (by decide) rfl (S.o) rfl (fun r h' z _ => ?_)
        obtain ⟨rfl, S'⟩ := z
        replace S := S.tr S'
        refine J.bipush (v := nI 48) X dX5_clause_138 (by decide) ?_
        refine J.isub X dX5_clause_140 ?_
        refine J.tw_wt X dX5_clause_141 S (rfl) (by omega) (fun h S => ?_)
        refine J.aload0 X dX5_clause_142 ?_
        refine J.getf X dX5_clause_143 fl_X5_27_X5 (S.o) rfl ?_
        refine J.iload1 X dX5_clause_146 ?_
        refine J.iload2 X dX5_clause_147 ?_
        refine J.tw_ac X dX5_clause_148 S (rfl) (by omega) (fun h S => ?_)
        refine J.aload0 X dX5_clause_149 ?_
        refine J.getf X dX5_clause_150 fl_X5_30_X5 (S.o) rfl ?_
        refine J.iload1 X dX5_clause_153 ?_
        refine J.bipush (v := nI 100) X dX5_clause_154 (by decide) ?_
        refine J.at (pc' := 156) rfl ?_
        refine J.iload3 X dX5_clause_156 ?_
        refine J.imul X dX5_clause_157 ?_
        refine J.iload4 X dX5_clause_158 ?_
        refine J.iadd X dX5_clause_160 ?_
        refine J.tw_ky X dX5_clause_161 S (rfl) (by omega) (fun h S => ?_)
        refine J.vreturn X dX5_clause_162 (jRv.of ?_)
        unfold tpWt tpEnd tpKey
        rw [← hW, hA, hSs, if_pos c1]
        unfold tpW
        rw [if_pos c1]
        exact S
    haveI := tpDec tx m (nI 48) (nI 57) (tpMust tx m (nI 48) (nI 57) s.2).2
    refine J.bipush (v := nI 48) X dX5_clause_70 (by decide) ?_
    refine J.isub X dX5_clause_72 ?_
    refine J.istore4 X dX5_clause_73 ?_
    refine J.aload0 X dX5_clause_75 ?_
    refine J.bipush (v := nI 48) X dX5_clause_76 (by decide) ?_
    refine J.bipush (v := nI 57) X dX5_clause_78 (by decide) ?_
    refine J.callVi X dX5_clause_80 lk_X5_133_X5 ce_X5_sees (tw_sees F S.1 hm hb (nI 48) (nI 57)) (by decide) rfl (S.o) rfl (fun r h' e _ => ?_)
    obtain ⟨rfl, rfl⟩ := e
    refine J.if_eqB (tgt := 106) X dX5_clause_83 (by decide) (fun c2 => ?_) (fun c2 => ?_)
    · skip
      refine J.iload4 X dX5_clause_106 ?_
      have e : tpNum tx m s.2 = ((tpMust tx m (nI 48) (nI 57) s.2).1 - nI 48, (tpMust tx m (nI 48) (nI 57) s.2).2) := if_neg c2
      rw [e] at fin
      exact fin _ S
    · skip
      refine J.bipush (v := nI 10) X dX5_clause_86 (by decide) ?_
      refine J.iload4 X dX5_clause_88 ?_
      refine J.imul X dX5_clause_90 ?_
      refine J.aload0 X dX5_clause_91 ?_
      refine J.bipush (v := nI 48) X dX5_clause_92 (by decide) ?_
      refine J.bipush (v := nI 57) X dX5_clause_94 (by decide) ?_
      refine J.callVi X dX5_clause_96 lk_X5_136_X5 ce_X5_must (tw_must F S.1 hm hb (nI 48) (nI 57)) (by decide) rfl (S.o) rfl (fun r h' z _ => ?_)
      obtain ⟨rfl, S'⟩ := z
      replace S := S.tr S'
      refine J.iadd X dX5_clause_99 ?_
      refine J.bipush (v := nI 48) X dX5_clause_100 (by decide) ?_
      refine J.isub X dX5_clause_102 ?_
      refine J.goto (tgt := 108) X dX5_clause_103 (by decide) ?_
      have e : tpNum tx m s.2 = (nI 10 * ((tpMust tx m (nI 48) (nI 57) s.2).1 - nI 48) + (tpMust tx m (nI 48) (nI 57) (tpMust tx m (nI 48) (nI 57) s.2).2).1 - nI 48, (tpMust tx m (nI 48) (nI 57) (tpMust tx m (nI 48) (nI 57) s.2).2).2) := if_pos c2
      rw [e] at fin
      exact fin _ S
  haveI := tpDec tx m (nI 112) (nI 112) p
  haveI := tpDec tx m (nI 120) (nI 120) p
  have take : (tpSees tx m (nI 112) (nI 112) p ∨ tpSees tx m (nI 120) (nI 120) p) → J M hE 22 [some (.ref A), some (.int (nI c)), none, none, none] [] := by
    intro h
    have hlt : p.1 < m := h.elim (fun z => z.2.1) (fun z => z.2.1)
    rw [tpAct_t h] at key
    refine J.aload0 X dX5_clause_22 ?_
    refine J.getf X dX5_clause_23 fl_X5_24_X5 (S.o) rfl ?_
    refine J.aload0 X dX5_clause_26 ?_
    refine J.dup X dX5_clause_27 ?_
    refine J.getf X dX5_clause_28 fl_X5_130_X5 (S.o) rfl ?_
    refine J.dup_x1 X dX5_clause_31 ?_
    refine J.iconst (v := nI 1) X dX5_clause_32 (by decide) ?_
    refine J.iaddN X dX5_clause_33 ?_
    refine J.tw_i4 X dX5_clause_34 (pl_X5_130_X5 _) S (rfl) (rfl) (fun h S => ?_)
    refine J.iald X dX5_clause_37 (S.r_tx) (rfl) (by omega) ?_
    refine J.goto (tgt := 49) X dX5_clause_38 (by decide) ?_
    exact key _ S
  refine J.aload0 X dX5_clause_0 ?_
  refine J.bipush (v := nI 112) X dX5_clause_1 (by decide) ?_
  refine J.bipush (v := nI 112) X dX5_clause_3 (by decide) ?_
  refine J.callVi X dX5_clause_5 lk_X5_133_X5 ce_X5_sees (tw_sees F S.1 hm hp (nI 112) (nI 112)) (by decide) rfl (S.o) rfl (fun r h' e _ => ?_)
  obtain ⟨rfl, rfl⟩ := e
  refine J.if_neB (tgt := 22) X dX5_clause_8 (by decide) (fun c1 => ?_) (fun c1 => ?_)
  · skip
    exact take (Or.inl c1)
  · skip
    refine J.aload0 X dX5_clause_11 ?_
    refine J.bipush (v := nI 120) X dX5_clause_12 (by decide) ?_
    refine J.bipush (v := nI 120) X dX5_clause_14 (by decide) ?_
    refine J.callVi X dX5_clause_16 lk_X5_133_X5 ce_X5_sees (tw_sees F S.1 hm hp (nI 120) (nI 120)) (by decide) rfl (S.o) rfl (fun r h' e _ => ?_)
    obtain ⟨rfl, rfl⟩ := e
    refine J.if_eqB (tgt := 41) X dX5_clause_19 (by decide) (fun c2 => ?_) (fun c2 => ?_)
    · skip
      rw [tpAct_f (fun z => z.elim c1 c2)] at key
      refine J.aload0 X dX5_clause_41 ?_
      refine J.bipush (v := nI 103) X dX5_clause_42 (by decide) ?_
      refine J.bipush (v := nI 103) X dX5_clause_44 (by decide) ?_
      refine J.callVi X dX5_clause_46 lk_X5_136_X5 ce_X5_must (tw_must F S.1 hm hp (nI 103) (nI 103)) (by decide) rfl (S.o) rfl (fun r h' z _ => ?_)
      obtain ⟨rfl, S'⟩ := z
      replace S := S.tr S'
      exact key _ S
    · skip
      exact take (Or.inr c2)
/-- the arrays of the clauses -/
abbrev tAr : Type := (Nat → Int32) × (Nat → Int32) × (Nat → Int32)
noncomputable def tpPut (tx : Nat → Int32) (m : Nat) (p : tPt) (at_ : Nat) (a : tAr) : tAr := (upd a.1 at_ (tpAct tx m p).1, upd a.2.1 at_ (tpKey tx m p), tpWt tx m p a.2.2 at_)
/-- the clauses behind the first, f of them at the most -/
noncomputable def tpLoop (tx : Nat → Int32) (m b : Nat) : Nat → tPt → Nat → tAr → Option (tPt × Nat × tAr)
  | 0, _, _, _ => none
  | f + 1, p, n, a => if p.2 = none ∧ p.1 < m then (if n = 20 then tpLoop tx m b f (p.1, some p.1) n a else
      tpLoop tx m b f (tpEnd tx m (tpMust tx m (nI 59) (nI 59) p).2) (n + 1) (tpPut tx m (tpMust tx m (nI 59) (nI 59) p).2 (b + n) a)) else some (p, n, a)
theorem tpLoop_ok {tx : Nat → Int32} {m b : Nat} : ∀ {f : Nat} {p : tPt} {n : Nat} {a : tAr} {p' : tPt} {n' : Nat} {a' : tAr}, tpOk m p → n ≤ 20 → tpLoop tx m b f p n a = some (p', n', a') → tpOk m p' ∧ n' ≤ 20
  | 0, _, _, _, _, _, _, _, _, h => by cases h
  | f + 1, p, n, a, p', n', a', hp, hn, h => by
    unfold tpLoop at h
    split at h
    · split at h
      · exact tpLoop_ok (p := (p.1, some p.1)) ⟨hp.1, fun b hb => by have e : some p.1 = some b := hb; rw [← Option.some.inj e]; exact hp.1⟩ hn h
      · exact tpLoop_ok ((hp.must _ _).end) (by omega) h
    · cases h; exact ⟨hp, hn⟩
noncomputable def tpAll (tx : Nat → Int32) (m c : Nat) (a : tAr) : Option (tPt × Nat × tAr) := tpLoop tx m (c * 20) 22 (tpEnd tx m (0, none)) 1 (tpPut tx m (0, none) (c * 20) a)
theorem tw_trace0 {K : JK} {l : Launch} {hE : JIH} {A : Nat} {g sv kp go tx ac ky wt mn ts tz : Nat → Int32} {tp : Nat → Nat → Int64} {mv : Nat → Int64} {i0 i1 i2 i4 i5 : Int32} (F : JF K) (T : TwR K hE A g sv kp go tx ac ky wt mn ts tz tp mv i0 i1 i2 (nI 6) i4 i5) :
    Ct K l yX5_trace wX5_trace 5 [.ref A] hE (jRi (fun r0 h' => r0 = -4 ∧ hE = h')) jNo := by
  refine st_X5_trace (ls := [some (.ref A), none]) F rfl (body := fun M X => ?_)
  have S := T.S
  refine J.aload0 X dX5_trace_0 ?_
  refine J.getf X dX5_trace_1 fl_X5_139_X5 (S.o) rfl ?_
  refine J.bipush (v := nI 6) X dX5_trace_4 (by decide) ?_
  refine J.icmp_neN (tgt := 12) X dX5_trace_6 (by decide) (by omega) (by omega) (fun q9 => absurd q9 (by omega)) (fun _ => ?_)
  refine J.bipush (v := -4) X dX5_trace_9 (by decide) ?_
  refine J.zreturn X dX5_trace_11 (rfl) (jRi.of ?_)
  exact ⟨rfl, rfl⟩
theorem tw_trace {K : JK} {l : Launch} {hE : JIH} {A : Nat} {g sv kp go tx ac ky wt mn ts tz : Nat → Int32} {tp : Nat → Nat → Int64} {mv : Nat → Int64} {i0 i1 i4 i5 : Int32} (F : JF K) {m c : Nat} (T : TwR K hE A g sv kp go tx ac ky wt mn ts tz tp mv i0 i1 (nI m) (nI c) i4 i5) (hm : m ≤ 100) (hc : c < 6) {p : tPt} {n : Nat} {a : tAr} (hf : tpAll tx m c (ac, ky, wt) = some (p, n, a)) :
    Ct K l yX5_trace wX5_trace 5 [.ref A] hE (jRi (fun r0 h' => r0 = (match p.2 with | some b => -10 - nI b | none => nI c) ∧ TwS K hE h' A g sv kp go tx (a.1) (a.2.1) (a.2.2) ((match p.2 with | some _ => mn | none => upd mn c (nI n))) ts tz tp mv i0 i1 (nI 0) (nI (match p.2 with | some _ => c | none => c + 1)) (nI p.1) (bI p.2))) jNo := by
  refine st_X5_trace (ls := [some (.ref A), none]) F rfl (body := fun M X => ?_)
  have S := T.S
  have loop : ∀ (f : Nat) (q : tPt) (k : Nat) (a1 : tAr) (h1 : JIH), tpOk m q → k ≤ 20 → TwS K hE h1 A g sv kp go tx (a1.1) (a1.2.1) (a1.2.2) mn ts tz tp mv i0 i1 (nI m) (nI c) (nI q.1) (bI q.2) → tpLoop tx m (c * 20) f q k a1 = some (p, n, a) → J M h1 38 [some (.ref A), some (.int (nI k))] [] := by
    intro f
    induction f with
    | zero => intro q k a1 h1 hq hk S hf; cases hf
    | succ f ih =>
      intro q k a1 h1 hq hk S hf
      have hq1 := hq.1
      unfold tpLoop at hf
      have stop : ¬ (q.2 = none ∧ q.1 < m) → J M h1 101 [some (.ref A), some (.int (nI k))] [] := by
        intro hno
        rw [if_neg hno] at hf
        cases hf
        refine J.aload0 X dX5_trace_101 ?_
        refine J.iconst (v := nI 0) X dX5_trace_102 (by decide) ?_
        refine J.tw_i2 X dX5_trace_103 (pl_X5_124_X5 _) S (rfl) (rfl) (fun h S => ?_)
        refine J.aload0 X dX5_trace_106 ?_
        refine J.getf X dX5_trace_107 fl_X5_127_X5 (S.o) rfl ?_
        cases hp2 : p.2 with
        | none =>
          rw [hp2] at S
          refine J.if_lt (tgt := 121) X dX5_trace_110 (by decide) (fun _ => ?_) (fun q9 => absurd q9 (by decide))
          refine J.aload0 X dX5_trace_121 ?_
          refine J.getf X dX5_trace_122 fl_X5_36_X5 (S.o) rfl ?_
          refine J.aload0 X dX5_trace_125 ?_
          refine J.getf X dX5_trace_126 fl_X5_139_X5 (S.o) rfl ?_
          refine J.iload1 X dX5_trace_129 ?_
          refine J.tw_mn X dX5_trace_130 S (rfl) (by omega) (fun h S => ?_)
          refine J.aload0 X dX5_trace_131 ?_
          refine J.dup X dX5_trace_132 ?_
          refine J.getf X dX5_trace_133 fl_X5_139_X5 (S.o) rfl ?_
          refine J.dup_x1 X dX5_trace_136 ?_
          refine J.iconst (v := nI 1) X dX5_trace_137 (by decide) ?_
          refine J.iaddN X dX5_trace_138 ?_
          refine J.at (pc' := 139) rfl ?_
          refine J.tw_i3 X dX5_trace_139 (pl_X5_139_X5 _) S (rfl) (rfl) (fun h S => ?_)
          refine J.zreturn X dX5_trace_142 (rfl) (jRi.of ?_)
          rw [hp2]
          exact ⟨rfl, S⟩
        | some b =>
          rw [hp2] at S
          have hb := hq.2 b hp2
          refine J.if_lt (tgt := 121) X dX5_trace_110 (by decide) (fun c1 => ?_) (fun c1 => ?_)
          · skip
            exact absurd c1 (nI_pos (by omega))
          · skip
            refine J.bipush (v := -10) X dX5_trace_113 (by decide) ?_
            refine J.aload0 X dX5_trace_115 ?_
            refine J.getf X dX5_trace_116 fl_X5_127_X5 (S.o) rfl ?_
            refine J.isub X dX5_trace_119 ?_
            refine J.zreturn X dX5_trace_120 (rfl) (jRi.of ?_)
            rw [hp2]
            exact ⟨rfl, S⟩
      refine J.aload0 X dX5_trace_38 ?_
      refine J.getf X dX5_trace_39 fl_X5_127_X5 (S.o) rfl ?_
      refine J.if_ge (tgt := 101) X dX5_trace_42 (by decide) (fun c1 => ?_) (fun c1 => ?_)
      · skip
        refine stop (fun z => ?_)
        rw [z.1] at c1
        exact absurd c1 (by decide)
      · skip
        have hfn : q.2 = none := (bI_neg (fun b hb => by have := hq.2 b hb; omega)).mp (Int32.not_le.mp c1)
        refine J.aload0 X dX5_trace_45 ?_
        refine J.getf X dX5_trace_46 fl_X5_130_X5 (S.o) rfl ?_
        refine J.aload0 X dX5_trace_49 ?_
        refine J.getf X dX5_trace_50 fl_X5_124_X5 (S.o) rfl ?_
        refine J.icmp_geN (tgt := 101) X dX5_trace_53 (by decide) (by omega) (by omega) (fun c2 => ?_) (fun c2 => ?_)
        · skip
          exact stop (fun z => by have := z.2; omega)
        · skip
          rw [if_pos ⟨hfn, c2⟩] at hf
          refine J.iload1 X dX5_trace_56 ?_
          refine J.bipush (v := nI 20) X dX5_trace_57 (by decide) ?_
          refine J.icmp_neN (tgt := 73) X dX5_trace_59 (by decide) (by omega) (by omega) (fun c3 => ?_) (fun c3 => ?_)
          · skip
            rw [if_neg c3] at hf
            refine J.aload0 X dX5_trace_73 ?_
            refine J.bipush (v := nI 59) X dX5_trace_74 (by decide) ?_
            refine J.bipush (v := nI 59) X dX5_trace_76 (by decide) ?_
            refine J.callVi X dX5_trace_78 lk_X5_136_X5 ce_X5_must (tw_must F S.1 hm hq (nI 59) (nI 59)) (by decide) rfl (S.o) rfl (fun r h' z _ => ?_)
            obtain ⟨-, S'⟩ := z
            replace S := S.tr S'
            have hq2 := hq.must (tx := tx) (nI 59) (nI 59)
            refine J.pop X dX5_trace_81 ?_
            refine J.aload0 X dX5_trace_82 ?_
            refine J.aload0 X dX5_trace_83 ?_
            refine J.getf X dX5_trace_84 fl_X5_139_X5 (S.o) rfl ?_
            refine J.bipush (v := nI 20) X dX5_trace_87 (by decide) ?_
            refine J.imulN X dX5_trace_89 ?_
            refine J.iload1 X dX5_trace_90 ?_
            refine J.iaddN X dX5_trace_91 ?_
            refine J.callVv X dX5_trace_92 lk_X5_142_X5 ce_X5_clause (tw_clause (c := c * 20 + k) F S.1 hm hq2 (by omega)) (by decide) rfl (S.o) rfl (fun h' S' _ => ?_)
            replace S := S.tr S'
            refine J.iinc1N (d := 1) X dX5_trace_95 (by decide) ?_
            refine J.goto (tgt := 38) X dX5_trace_98 (by decide) ?_
            exact ih _ _ (tpPut tx m (tpMust tx m (nI 59) (nI 59) q).2 (c * 20 + k) a1) _ hq2.end (by omega) S hf
          · skip
            rw [if_pos c3] at hf
            refine J.aload0 X dX5_trace_62 ?_
            refine J.aload0 X dX5_trace_63 ?_
            refine J.getf X dX5_trace_64 fl_X5_130_X5 (S.o) rfl ?_
            refine J.tw_i5 X dX5_trace_67 (pl_X5_127_X5 _) S (rfl) (rfl) (fun h S => ?_)
            refine J.goto (tgt := 38) X dX5_trace_70 (by decide) ?_
            exact ih (q.1, some q.1) k a1 _ ⟨hq.1, fun b hb => by cases hb; exact hq.1⟩ hk S hf
  refine J.aload0 X dX5_trace_0 ?_
  refine J.getf X dX5_trace_1 fl_X5_139_X5 (S.o) rfl ?_
  refine J.bipush (v := nI 6) X dX5_trace_4 (by decide) ?_
  refine J.icmp_neN (tgt := 12) X dX5_trace_6 (by decide) (by omega) (by omega) (fun _ => ?_) (fun q9 => absurd q9 (by omega))
  refine J.aload0 X dX5_trace_12 ?_
  refine J.iconst (v := nI 0) X dX5_trace_13 (by decide) ?_
  refine J.tw_i4 X dX5_trace_14 (pl_X5_130_X5 _) S (rfl) (rfl) (fun h S => ?_)
  refine J.aload0 X dX5_trace_17 ?_
  refine J.iconst (v := -1) X dX5_trace_18 (by decide) ?_
  refine J.tw_i5 X dX5_trace_19 (pl_X5_127_X5 _) S (rfl) (rfl) (fun h S => ?_)
  refine J.iconst (v := nI 0) X dX5_trace_22 (by decide) ?_
  refine J.istore1 X dX5_trace_23 ?_
  refine J.aload0 X dX5_trace_24 ?_
  refine J.aload0 X dX5_trace_25 ?_
  refine J.getf X dX5_trace_26 fl_X5_139_X5 (S.o) rfl ?_
  refine J.bipush (v := nI 20) X dX5_trace_29 (by decide) ?_
  refine J.at (pc' := 31) rfl ?_
  refine J.imulN X dX5_trace_31 ?_
  have h0 : tpOk m (0, none) := ⟨Nat.zero_le _, fun b hb => by cases hb⟩
  refine J.callVv X dX5_trace_32 lk_X5_142_X5 ce_X5_clause (tw_clause (p := (0, none)) (c := c * 20) F S.1 hm h0 (by omega)) (by decide) rfl (S.o) rfl (fun h' S' _ => ?_)
  replace S := S.tr S'
  refine J.iinc1N (d := 1) X dX5_trace_35 (by decide) ?_
  exact loop 22 _ 1 (tpPut tx m (0, none) (c * 20) (ac, ky, wt)) _ h0.end (by omega) S hf
