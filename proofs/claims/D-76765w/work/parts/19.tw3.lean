/-! the model: hits, puts, gets -/
theorem wh_upd {g : Nat → Int32} {j k : Nat} (hj : 400 ≤ j) (hk : k < 400) (x : Int32) : wh (upd g j x) k = wh g k := by
  unfold wh; rw [upd_at, if_neg (by omega)]
def thits (g : Nat → Int32) (k : Nat) : Int32 := if g (1600 + k) < nI 99 then g (1600 + k) + nI 1 else nI 99
def thitQ (g : Nat → Int32) (k : Nat) : Nat := if wh g k = 1 ∧ g 3202 ≤ g (1600 + k) then 2 else wh g k
def thitG (g : Nat → Int32) (k : Nat) : Nat → Int32 :=
  let g1 := upd g (1600 + k) (thits g k)
  tgoes g1 k (thitQ g1 k)
theorem thitQ_le {g : Nat → Int32} (hw : WG g) {k : Nat} (hk : k < 400) : thitQ g k ≤ 4 := by
  unfold thitQ
  have := (hw k hk).1
  split <;> omega
theorem WG.hit {g : Nat → Int32} (hw : WG g) {k : Nat} (hk : k < 400) : WG (thitG g k) := (hw.upd (by omega) _).goes hk (thitQ_le (hw.upd (by omega) _) hk)
theorem tw_hit {K : JK} {l : Launch} {hE : JIH} {A : Nat} {g sv kp go tx ac ky wt mn ts tz : Nat → Int32} {tp : Nat → Nat → Int64} {mv : Nat → Int64} {i0 i1 i2 i3 i4 i5 : Int32} (F : JF K) (T : TwR K hE A g sv kp go tx ac ky wt mn ts tz tp mv i0 i1 i2 i3 i4 i5) (hw : WG g) {k : Nat} (hk : k < 400) :
    Ct K l yX5_hit wX5_hit 1 [.ref A, .int (nI k)] hE (jRv (fun h' => TwS K hE h' A (thitG g k) sv kp go tx ac ky wt mn ts tz tp mv i0 i1 i2 i3 i4 i5)) jNo := by
  refine st_X5_hit (ls := [some (.ref A), some (.int (nI k))]) F rfl (body := fun M X => ?_)
  have S := T.S
  have key : J M hE 41 [some (.ref A), some (.int (nI k))] [.int (thits g k), .int (nI (1600 + k)), .ref (A + 1)] := by
    refine J.tw_g X dX5_hit_41 S (rfl) (by omega) (fun h S => ?_)
    replace hw := hw.upd (j := 1600 + k) (by omega) (thits g k)
    have hQ : thitQ _ k ≤ 4 := thitQ_le hw hk
    generalize hg1 : upd g (1600 + k) (thits g k) = g1 at S hw hQ
    have key2 : J M h 89 [some (.ref A), some (.int (nI k))] [.int (nI (thitQ g1 k)), .int (nI k), .ref A] := by
      refine J.callVv X dX5_hit_89 lk_X5_58_X5 ce_X5_goes (tw_goes F S.1 hw hk hQ) (by decide) rfl (S.o) rfl (fun h' S' _ => ?_)
      replace S := S.tr S'
      refine J.vreturn X dX5_hit_92 (jRv.of ?_)
      unfold thitG
      rw [hg1]
      exact S
    have hwk := (hw k hk).1
    refine J.aload0 X dX5_hit_42 ?_
    refine J.iload1 X dX5_hit_43 ?_
    refine J.aload0 X dX5_hit_44 ?_
    refine J.getf X dX5_hit_45 fl_X5_11_X5 (S.o) rfl ?_
    refine J.iconst (v := nI 0) X dX5_hit_48 (by decide) ?_
    refine J.iload1 X dX5_hit_49 ?_
    refine J.iadd0N X dX5_hit_50 ?_
    refine J.iald X dX5_hit_51 (S.r_g) (rfl) (by omega) ?_
    refine J.topi (y := nI (wh g1 k)) ((hw k hk).2) ?_
    refine J.iconst (v := nI 1) X dX5_hit_52 (by decide) ?_
    refine J.icmp_neN (tgt := 81) X dX5_hit_53 (by decide) (by omega) (by omega) (fun c1 => ?_) (fun c1 => ?_)
    · skip
      refine J.aload0 X dX5_hit_81 ?_
      refine J.getf X dX5_hit_82 fl_X5_11_X5 (S.o) rfl ?_
      refine J.iconst (v := nI 0) X dX5_hit_85 (by decide) ?_
      refine J.iload1 X dX5_hit_86 ?_
      refine J.iadd0N X dX5_hit_87 ?_
      refine J.iald X dX5_hit_88 (S.r_g) (rfl) (by omega) ?_
      rw [show thitQ g1 k = wh g1 k from if_neg (fun z => c1 z.1)] at key2
      exact J.topi (hw k hk).2 key2
    · skip
      refine J.aload0 X dX5_hit_56 ?_
      refine J.getf X dX5_hit_57 fl_X5_11_X5 (S.o) rfl ?_
      refine J.sipush (v := nI 1600) X dX5_hit_60 (by decide) ?_
      refine J.iload1 X dX5_hit_63 ?_
      refine J.iaddN X dX5_hit_64 ?_
      refine J.iald X dX5_hit_65 (S.r_g) (rfl) (by omega) ?_
      refine J.aload0 X dX5_hit_66 ?_
      refine J.getf X dX5_hit_67 fl_X5_11_X5 (S.o) rfl ?_
      refine J.sipush (v := nI 3202) X dX5_hit_70 (by decide) ?_
      refine J.iald X dX5_hit_73 (S.r_g) (rfl) (by omega) ?_
      refine J.icmp_lt (tgt := 81) X dX5_hit_74 (by decide) (fun c2 => ?_) (fun c2 => ?_)
      · skip
        refine J.aload0 X dX5_hit_81 ?_
        refine J.getf X dX5_hit_82 fl_X5_11_X5 (S.o) rfl ?_
        refine J.iconst (v := nI 0) X dX5_hit_85 (by decide) ?_
        refine J.iload1 X dX5_hit_86 ?_
        refine J.iadd0N X dX5_hit_87 ?_
        refine J.iald X dX5_hit_88 (S.r_g) (rfl) (by omega) ?_
        rw [show thitQ g1 k = wh g1 k from if_neg (fun z => absurd z.2 (Int32.not_le.mpr c2))] at key2
        exact J.topi (hw k hk).2 key2
      · skip
        refine J.iconst (v := nI 2) X dX5_hit_77 (by decide) ?_
        refine J.goto (tgt := 89) X dX5_hit_78 (by decide) ?_
        rw [show thitQ g1 k = 2 from if_pos ⟨c1, Int32.not_lt.mp c2⟩] at key2
        exact key2
  refine J.aload0 X dX5_hit_0 ?_
  refine J.getf X dX5_hit_1 fl_X5_11_X5 (S.o) rfl ?_
  refine J.sipush (v := nI 1600) X dX5_hit_4 (by decide) ?_
  refine J.iload1 X dX5_hit_7 ?_
  refine J.iaddN X dX5_hit_8 ?_
  refine J.aload0 X dX5_hit_9 ?_
  refine J.getf X dX5_hit_10 fl_X5_11_X5 (S.o) rfl ?_
  refine J.sipush (v := nI 1600) X dX5_hit_13 (by decide) ?_
  refine J.iload1 X dX5_hit_16 ?_
  refine J.iaddN X dX5_hit_17 ?_
  refine J.iald X dX5_hit_18 (S.r_g) (rfl) (by omega) ?_
  refine J.bipush (v := nI 99) X dX5_hit_19 (by decide) ?_
  refine J.at (pc' := 21) rfl ?_
  refine J.icmp_ge (tgt := 39) X dX5_hit_21 (by decide) (fun c1 => ?_) (fun c1 => ?_)
  · skip
    refine J.bipush (v := nI 99) X dX5_hit_39 (by decide) ?_
    rw [show thits g k = nI 99 from if_neg (Int32.not_lt.mpr c1)] at key
    exact key
  · skip
    refine J.aload0 X dX5_hit_24 ?_
    refine J.getf X dX5_hit_25 fl_X5_11_X5 (S.o) rfl ?_
    refine J.sipush (v := nI 1600) X dX5_hit_28 (by decide) ?_
    refine J.iload1 X dX5_hit_31 ?_
    refine J.iaddN X dX5_hit_32 ?_
    refine J.iald X dX5_hit_33 (S.r_g) (rfl) (by omega) ?_
    refine J.iconst (v := nI 1) X dX5_hit_34 (by decide) ?_
    refine J.iadd X dX5_hit_35 ?_
    refine J.goto (tgt := 41) X dX5_hit_36 (by decide) ?_
    rw [show thits g k = g (1600 + k) + nI 1 from if_pos (Int32.not_le.mp c1)] at key
    exact key
theorem tw_drops {K : JK} {l : Launch} {hE : JIH} {A : Nat} {g sv kp go tx ac ky wt mn ts tz : Nat → Int32} {tp : Nat → Nat → Int64} {mv : Nat → Int64} {i0 i1 i2 i3 i4 i5 : Int32} (F : JF K) (T : TwR K hE A g sv kp go tx ac ky wt mn ts tz tp mv i0 i1 i2 i3 i4 i5) (hw : WG g) {k : Nat} (hk : k < 400) :
    Ct K l yX5_drops wX5_drops 1 [.ref A, .int (nI k)] hE (jRi (fun r h' => r = nI (wh g k) ∧ TwS K hE h' A (tgoes g k 0) sv kp go tx ac ky wt mn ts tz tp mv i0 i1 i2 i3 i4 i5)) jNo := by
  refine st_X5_drops (ls := [some (.ref A), some (.int (nI k)), none]) F rfl (body := fun M X => ?_)
  have S := T.S
  refine J.aload0 X dX5_drops_0 ?_
  refine J.getf X dX5_drops_1 fl_X5_11_X5 (S.o) rfl ?_
  refine J.iconst (v := nI 0) X dX5_drops_4 (by decide) ?_
  refine J.iload1 X dX5_drops_5 ?_
  refine J.iadd0N X dX5_drops_6 ?_
  refine J.iald X dX5_drops_7 (S.r_g) (rfl) (by omega) ?_
  refine J.topi (y := nI (wh g k)) ((hw k hk).2) ?_
  refine J.istore2 X dX5_drops_8 ?_
  refine J.aload0 X dX5_drops_9 ?_
  refine J.iload1 X dX5_drops_10 ?_
  refine J.iconst (v := nI 0) X dX5_drops_11 (by decide) ?_
  refine J.callVv X dX5_drops_12 lk_X5_58_X5 ce_X5_goes (tw_goes F S.1 hw hk (by omega)) (by decide) rfl (S.o) rfl (fun h' S' _ => ?_)
  refine J.iload2 X dX5_drops_15 ?_
  refine J.zreturn X dX5_drops_16 (rfl) (jRi.of ?_)
  exact ⟨rfl, S'⟩
def tcapG (g : Nat → Int32) (x : Int32) : Nat → Int32 :=
  let g1 := upd g 3200 x
  upd g1 3201 (if x < g1 3201 then x else g1 3201)
theorem WG.cap {g : Nat → Int32} (hw : WG g) (x : Int32) : WG (tcapG g x) := (hw.upd (by omega) _).upd (by omega) _
theorem tw_capacity {K : JK} {l : Launch} {hE : JIH} {A : Nat} {g sv kp go tx ac ky wt mn ts tz : Nat → Int32} {tp : Nat → Nat → Int64} {mv : Nat → Int64} {i0 i2 i3 i4 i5 : Int32} (F : JF K) {n : Nat} (T : TwR K hE A g sv kp go tx ac ky wt mn ts tz tp mv i0 (nI n) i2 i3 i4 i5) (hw : WG g) (hn : n ≤ 400) (x : Int32) {f : Nat} {g' go' : Nat → Int32} {n' : Nat} (hf : ttrim f (tcapG g x) go n g' go' n') :
    Ct K l yX5_capacity wX5_capacity 4 [.ref A, .int x] hE (jRv (fun h' => TwS K hE h' A (g') sv kp (go') tx ac ky wt mn ts tz tp mv i0 (nI n') i2 i3 i4 i5)) jNo := by
  refine st_X5_capacity (ls := [some (.ref A), some (.int x)]) F rfl (body := fun M X => ?_)
  have S := T.S
  refine J.aload0 X dX5_capacity_0 ?_
  refine J.getf X dX5_capacity_1 fl_X5_11_X5 (S.o) rfl ?_
  refine J.sipush (v := nI 3200) X dX5_capacity_4 (by decide) ?_
  refine J.iload1 X dX5_capacity_7 ?_
  refine J.tw_g X dX5_capacity_8 S (rfl) (by omega) (fun h S => ?_)
  generalize hg1 : upd g 3200 x = g1 at S
  have key : J M h 40 [some (.ref A), some (.int x)] [.int (if x < g1 3201 then x else g1 3201), .int (nI 3201), .ref (A + 1)] := by
    refine J.tw_g X dX5_capacity_40 S (rfl) (by omega) (fun h S => ?_)
    refine J.aload0 X dX5_capacity_41 ?_
    have e : upd g1 3201 (if x < g1 3201 then x else g1 3201) = tcapG g x := by unfold tcapG; rw [hg1]
    rw [e] at S
    refine J.callVv X dX5_capacity_42 lk_X5_86_X5 ce_X5_trim (tw_trim F S.1 (hw.cap x) hn hf) (by decide) rfl (S.o) rfl (fun h' S' _ => ?_)
    replace S := S.tr S'
    refine J.vreturn X dX5_capacity_45 (jRv.of ?_)
    exact S
  refine J.aload0 X dX5_capacity_9 ?_
  refine J.getf X dX5_capacity_10 fl_X5_11_X5 (S.o) rfl ?_
  refine J.sipush (v := nI 3201) X dX5_capacity_13 (by decide) ?_
  refine J.aload0 X dX5_capacity_16 ?_
  refine J.getf X dX5_capacity_17 fl_X5_11_X5 (S.o) rfl ?_
  refine J.sipush (v := nI 3201) X dX5_capacity_20 (by decide) ?_
  refine J.iald X dX5_capacity_23 (S.r_g) (rfl) (by omega) ?_
  refine J.iload1 X dX5_capacity_24 ?_
  refine J.icmp_le (tgt := 32) X dX5_capacity_25 (by decide) (fun c1 => ?_) (fun c1 => ?_)
  · skip
    refine J.aload0 X dX5_capacity_32 ?_
    refine J.getf X dX5_capacity_33 fl_X5_11_X5 (S.o) rfl ?_
    refine J.sipush (v := nI 3201) X dX5_capacity_36 (by decide) ?_
    refine J.iald X dX5_capacity_39 (S.r_g) (rfl) (by omega) ?_
    rw [if_neg (Int32.not_lt.mpr c1)] at key
    exact key
  · skip
    refine J.iload1 X dX5_capacity_28 ?_
    refine J.goto (tgt := 40) X dX5_capacity_29 (by decide) ?_
    rw [if_pos (Int32.not_le.mp c1)] at key
    exact key
def tgetsM (g : Nat → Int32) (k : Nat) : Nat → Int32 :=
  let g1 := upd g 3210 (g 3210 + nI 1)
  upd g1 3211 (g1 3211 + (if wh g1 k = 0 then nI 0 else nI 1))
def tgetsH (g : Nat → Int32) (k : Nat) : Nat → Int32 :=
  let g1 := thitG g k
  let g2 := upd g1 3212 (g1 3212 + g1 (1200 + k))
  upd g2 3209 (g2 3209 + nI 1)
def tthing (g : Nat → Int32) (k : Nat) : Prop := wh g k = 1 ∨ wh g k = 2
def tgetsR (f : Nat) (g go : Nat → Int32) (n k : Nat) (r : Nat) (g' go' : Nat → Int32) (n' : Nat) : Prop := (¬ tthing g k ∧ r = 0 ∧ g' = tgetsM g k ∧ go' = go ∧ n' = n) ∨ (tthing g k ∧ r = 1 ∧ ttrim f (tgetsH g k) go n g' go' n')
theorem WG.getsM {g : Nat → Int32} (hw : WG g) (k : Nat) : WG (tgetsM g k) := (hw.upd (by omega) _).upd (by omega) _
theorem WG.getsH {g : Nat → Int32} (hw : WG g) {k : Nat} (hk : k < 400) : WG (tgetsH g k) := ((hw.hit hk).upd (by omega) _).upd (by omega) _
theorem tgetsR.WG {f : Nat} {g go : Nat → Int32} {n k r : Nat} {g' go' : Nat → Int32} {n' : Nat} (h : tgetsR f g go n k r g' go' n') (hw : WG g) (hn : n ≤ 400) (hk : k < 400) : WG g' ∧ n' ≤ 400 := by
  rcases h with ⟨-, -, rfl, rfl, rfl⟩ | ⟨-, -, h⟩
  · exact ⟨hw.getsM k, hn⟩
  · exact h.WG (hw.getsH hk) hn
theorem tw_gets {K : JK} {l : Launch} {hE : JIH} {A : Nat} {g sv kp go tx ac ky wt mn ts tz : Nat → Int32} {tp : Nat → Nat → Int64} {mv : Nat → Int64} {i0 i2 i3 i4 i5 : Int32} (F : JF K) {n : Nat} (T : TwR K hE A g sv kp go tx ac ky wt mn ts tz tp mv i0 (nI n) i2 i3 i4 i5) (hw : WG g) (hn : n ≤ 400) {k : Nat} (hk : k < 400) {f r : Nat} {g' go' : Nat → Int32} {n' : Nat} (hf : tgetsR f g go n k r g' go' n') :
    Ct K l yX5_gets wX5_gets 4 [.ref A, .int (nI k)] hE (jRi (fun r0 h' => r0 = nI r ∧ TwS K hE h' A (g') sv kp (go') tx ac ky wt mn ts tz tp mv i0 (nI n') i2 i3 i4 i5)) jNo := by
  refine st_X5_gets (ls := [some (.ref A), some (.int (nI k))]) F rfl (body := fun M X => ?_)
  have S := T.S
  refine J.aload0 X dX5_gets_0 ?_
  refine J.iload1 X dX5_gets_1 ?_
  refine J.callVi X dX5_gets_2 lk_X5_89_X5 ce_X5_isThing (tw_isThing F S.1 hw hk) (by decide) rfl (S.o) rfl (fun r h' e _ => ?_)
  obtain ⟨rfl, rfl⟩ := e
  refine J.if_neB (tgt := 49) X dX5_gets_5 (by decide) (fun c1 => ?_) (fun c1 => ?_)
  · skip
    rcases hf with ⟨h1, -⟩ | ⟨-, rfl, hf⟩
    · exact absurd c1 h1
    refine J.aload0 X dX5_gets_49 ?_
    refine J.iload1 X dX5_gets_50 ?_
    refine J.callVv X dX5_gets_51 lk_X5_82_X5 ce_X5_hit (tw_hit F S.1 hw hk) (by decide) rfl (S.o) rfl (fun h' S' _ => ?_)
    replace S := S.tr S'
    refine J.aload0 X dX5_gets_54 ?_
    refine J.getf X dX5_gets_55 fl_X5_11_X5 (S.o) rfl ?_
    refine J.sipush (v := nI 3212) X dX5_gets_58 (by decide) ?_
    refine J.dup2 X dX5_gets_61 ?_
    refine J.iald X dX5_gets_62 (S.r_g) (rfl) (by omega) ?_
    refine J.aload0 X dX5_gets_63 ?_
    refine J.getf X dX5_gets_64 fl_X5_11_X5 (S.o) rfl ?_
    refine J.sipush (v := nI 1200) X dX5_gets_67 (by decide) ?_
    refine J.iload1 X dX5_gets_70 ?_
    refine J.iaddN X dX5_gets_71 ?_
    refine J.iald X dX5_gets_72 (S.r_g) (rfl) (by omega) ?_
    refine J.iadd X dX5_gets_73 ?_
    refine J.at (pc' := 74) rfl ?_
    refine J.tw_g X dX5_gets_74 S (rfl) (by omega) (fun h S => ?_)
    refine J.aload0 X dX5_gets_75 ?_
    refine J.getf X dX5_gets_76 fl_X5_11_X5 (S.o) rfl ?_
    refine J.sipush (v := nI 3209) X dX5_gets_79 (by decide) ?_
    refine J.dup2 X dX5_gets_82 ?_
    refine J.iald X dX5_gets_83 (S.r_g) (rfl) (by omega) ?_
    refine J.iconst (v := nI 1) X dX5_gets_84 (by decide) ?_
    refine J.iadd X dX5_gets_85 ?_
    refine J.tw_g X dX5_gets_86 S (rfl) (by omega) (fun h S => ?_)
    refine J.aload0 X dX5_gets_87 ?_
    refine J.callVv X dX5_gets_88 lk_X5_86_X5 ce_X5_trim (tw_trim F S.1 (hw.getsH hk) hn hf) (by decide) rfl (S.o) rfl (fun h' S' _ => ?_)
    replace S := S.tr S'
    refine J.iconst (v := nI 1) X dX5_gets_91 (by decide) ?_
    refine J.zreturn X dX5_gets_92 (rfl) (jRi.of ?_)
    exact ⟨rfl, S⟩
  · skip
    rcases hf with ⟨-, rfl, rfl, rfl, rfl⟩ | ⟨h1, -⟩
    · refine J.aload0 X dX5_gets_8 ?_
      refine J.getf X dX5_gets_9 fl_X5_11_X5 (S.o) rfl ?_
      refine J.sipush (v := nI 3210) X dX5_gets_12 (by decide) ?_
      refine J.dup2 X dX5_gets_15 ?_
      refine J.iald X dX5_gets_16 (S.r_g) (rfl) (by omega) ?_
      refine J.iconst (v := nI 1) X dX5_gets_17 (by decide) ?_
      refine J.iadd X dX5_gets_18 ?_
      refine J.tw_g X dX5_gets_19 S (rfl) (by omega) (fun h S => ?_)
      replace hw := hw.upd (j := 3210) (by omega) (g 3210 + nI 1)
      generalize hg1 : upd g 3210 (g 3210 + nI 1) = g1 at S hw
      have key : J M h 46 [some (.ref A), some (.int (nI k))] [.int (g1 3211 + (if wh g1 k = 0 then nI 0 else nI 1)), .int (nI 3211), .ref (A + 1)] := by
        refine J.tw_g X dX5_gets_46 S (rfl) (by omega) (fun h S => ?_)
        refine J.iconst (v := nI 0) X dX5_gets_47 (by decide) ?_
        refine J.zreturn X dX5_gets_48 (rfl) (jRi.of ?_)
        unfold tgetsM
        rw [hg1]
        exact ⟨rfl, S⟩
      have hwk := (hw k hk).1
      refine J.aload0 X dX5_gets_20 ?_
      refine J.getf X dX5_gets_21 fl_X5_11_X5 (S.o) rfl ?_
      refine J.sipush (v := nI 3211) X dX5_gets_24 (by decide) ?_
      refine J.dup2 X dX5_gets_27 ?_
      refine J.iald X dX5_gets_28 (S.r_g) (rfl) (by omega) ?_
      refine J.aload0 X dX5_gets_29 ?_
      refine J.getf X dX5_gets_30 fl_X5_11_X5 (S.o) rfl ?_
      refine J.iconst (v := nI 0) X dX5_gets_33 (by decide) ?_
      refine J.iload1 X dX5_gets_34 ?_
      refine J.iadd0N X dX5_gets_35 ?_
      refine J.iald X dX5_gets_36 (S.r_g) (rfl) (by omega) ?_
      refine J.topi (y := nI (wh g1 k)) ((hw k hk).2) ?_
      refine J.if_eqN (tgt := 44) X dX5_gets_37 (by decide) (by omega) (fun c2 => ?_) (fun c2 => ?_)
      · skip
        refine J.iconst (v := nI 0) X dX5_gets_44 (by decide) ?_
        refine J.iadd X dX5_gets_45 ?_
        rw [if_pos c2] at key
        exact key
      · skip
        refine J.iconst (v := nI 1) X dX5_gets_40 (by decide) ?_
        refine J.goto (tgt := 45) X dX5_gets_41 (by decide) ?_
        refine J.iadd X dX5_gets_45 ?_
        rw [if_neg c2] at key
        exact key
    · exact absurd h1 c1
def tput3 (g : Nat → Int32) (k : Nat) (v x c : Int32) : Nat → Int32 := upd (upd (tweighs g k x) (400 + k) v) (1200 + k) c
def tput7 (g3 : Nat → Int32) (k was : Nat) (c : Int32) : Nat → Int32 :=
  let g4 := upd g3 3213 (g3 3213 + c)
  let g5 := upd g4 (1600 + k) (nI 0)
  let g6 := upd g5 (2400 + k) (nI 0)
  upd g6 (2000 + k) (if was = 0 then g6 3203 else nI 0)
def tput8 (g7 : Nat → Int32) (was : Nat) (x : Int32) : Nat → Int32 :=
  if was = 3 then upd g7 3201 (if x < g7 3201 then g7 3201 - x else nI 0)
  else if was = 4 then upd g7 3201 (if g7 3201 + x < g7 3200 then g7 3201 + x else g7 3200) else g7
def tputN (g : Nat → Int32) (k : Nat) (v x c : Int32) : Nat → Int32 := tgoes (tput8 (tput7 (tput3 g k v x c) k (wh g k) c) (wh g k) x) k (if wh g k = 0 then 1 else 2)
def tputR (f : Nat) (g go : Nat → Int32) (n k : Nat) (v x c : Int32) (r : Nat) (g' go' : Nat → Int32) (n' : Nat) : Prop := (tthing g k ∧ r = 2 ∧ ttrim f (thitG (tput3 g k v x c) k) go n g' go' n') ∨ (¬ tthing g k ∧ r = (if wh g k = 0 then 0 else 1) ∧ ttrim f (tputN g k v x c) go n g' go' n')
theorem WG.put3 {g : Nat → Int32} (hw : WG g) (k : Nat) (v x c : Int32) : WG (tput3 g k v x c) := ((hw.weighs x).upd (by omega) _).upd (by omega) _
theorem WG.put7 {g : Nat → Int32} (hw : WG g) (k was : Nat) (c : Int32) : WG (tput7 g k was c) := (((hw.upd (by omega) _).upd (by omega) _).upd (by omega) _).upd (by omega) _
theorem WG.put8 {g : Nat → Int32} (hw : WG g) (was : Nat) (x : Int32) : WG (tput8 g was x) := by
  unfold tput8
  split
  · exact hw.upd (by omega) _
  · split
    · exact hw.upd (by omega) _
    · exact hw
theorem WG.putN {g : Nat → Int32} (hw : WG g) {k : Nat} (hk : k < 400) (v x c : Int32) : WG (tputN g k v x c) := (((hw.put3 k v x c).put7 k _ c).put8 _ x).goes hk (by split <;> omega)
theorem tputR.WG {f : Nat} {g go : Nat → Int32} {n k r : Nat} {v x c : Int32} {g' go' : Nat → Int32} {n' : Nat} (h : tputR f g go n k v x c r g' go' n') (hw : WG g) (hn : n ≤ 400) (hk : k < 400) : WG g' ∧ n' ≤ 400 := by
  rcases h with ⟨-, -, h⟩ | ⟨-, -, h⟩
  · exact h.WG ((hw.put3 k v x c).hit hk) hn
  · exact h.WG (hw.putN hk v x c) hn
theorem tw_putIn {K : JK} {l : Launch} {hE : JIH} {A : Nat} {g sv kp go tx ac ky wt mn ts tz : Nat → Int32} {tp : Nat → Nat → Int64} {mv : Nat → Int64} {i0 i2 i3 i4 i5 : Int32} (F : JF K) {n : Nat} (T : TwR K hE A g sv kp go tx ac ky wt mn ts tz tp mv i0 (nI n) i2 i3 i4 i5) (hw : WG g) (hn : n ≤ 400) {k : Nat} (hk : k < 400) (v x c : Int32) {f r : Nat} {g' go' : Nat → Int32} {n' : Nat} (hf : tputR f g go n k v x c r g' go' n') :
    Ct K l yX5_putIn wX5_putIn 4 [.ref A, .int (nI k), .int v, .int x, .int c] hE (jRi (fun r0 h' => r0 = nI r ∧ TwS K hE h' A (g') sv kp (go') tx ac ky wt mn ts tz tp mv i0 (nI n') i2 i3 i4 i5)) jNo := by
  refine st_X5_putIn (ls := [some (.ref A), some (.int (nI k)), some (.int v), some (.int x), some (.int c), none]) F rfl (body := fun M X => ?_)
  have S := T.S
  have hwk := (hw k hk).1
  refine J.aload0 X dX5_putIn_0 ?_
  refine J.getf X dX5_putIn_1 fl_X5_11_X5 (S.o) rfl ?_
  refine J.iconst (v := nI 0) X dX5_putIn_4 (by decide) ?_
  refine J.iload1 X dX5_putIn_5 ?_
  refine J.iadd0N X dX5_putIn_6 ?_
  refine J.iald X dX5_putIn_7 (S.r_g) (rfl) (by omega) ?_
  refine J.topi (y := nI (wh g k)) ((hw k hk).2) ?_
  refine J.istore5 X dX5_putIn_8 ?_
  refine J.aload0 X dX5_putIn_10 ?_
  refine J.iload1 X dX5_putIn_11 ?_
  refine J.iload3 X dX5_putIn_12 ?_
  refine J.callVv X dX5_putIn_13 lk_X5_79_X5 ce_X5_weighs (tw_weighs F S.1 hw hk x) (by decide) rfl (S.o) rfl (fun h' S' _ => ?_)
  replace S := S.tr S'
  refine J.aload0 X dX5_putIn_16 ?_
  refine J.getf X dX5_putIn_17 fl_X5_11_X5 (S.o) rfl ?_
  refine J.sipush (v := nI 400) X dX5_putIn_20 (by decide) ?_
  refine J.iload1 X dX5_putIn_23 ?_
  refine J.iaddN X dX5_putIn_24 ?_
  refine J.iload2 X dX5_putIn_25 ?_
  refine J.tw_g X dX5_putIn_26 S (rfl) (by omega) (fun h S => ?_)
  refine J.aload0 X dX5_putIn_27 ?_
  refine J.getf X dX5_putIn_28 fl_X5_11_X5 (S.o) rfl ?_
  refine J.sipush (v := nI 1200) X dX5_putIn_31 (by decide) ?_
  refine J.iload1 X dX5_putIn_34 ?_
  refine J.iaddN X dX5_putIn_35 ?_
  refine J.at (pc' := 36) rfl ?_
  refine J.iload4 X dX5_putIn_36 ?_
  refine J.tw_g X dX5_putIn_38 S (rfl) (by omega) (fun h S => ?_)
  have hw3 := hw.put3 k v x c
  replace S : TwS K hE h A (tput3 g k v x c) sv kp go tx ac ky wt mn ts tz tp mv i0 (nI n) i2 i3 i4 i5 := S
  by_cases ht : tthing g k
  · rcases hf with ⟨-, rfl, hf⟩ | ⟨h1, -⟩
    · skip
      have key : J M h 51 [some (.ref A), some (.int (nI k)), some (.int v), some (.int x), some (.int c), some (.int (nI (wh g k)))] [] := by
        refine J.aload0 X dX5_putIn_51 ?_
        refine J.iload1 X dX5_putIn_52 ?_
        refine J.callVv X dX5_putIn_53 lk_X5_82_X5 ce_X5_hit (tw_hit F S.1 hw3 hk) (by decide) rfl (S.o) rfl (fun h' S' _ => ?_)
        replace S := S.tr S'
        refine J.aload0 X dX5_putIn_56 ?_
        refine J.callVv X dX5_putIn_57 lk_X5_86_X5 ce_X5_trim (tw_trim F S.1 (hw3.hit hk) hn hf) (by decide) rfl (S.o) rfl (fun h' S' _ => ?_)
        replace S := S.tr S'
        refine J.iconst (v := nI 2) X dX5_putIn_60 (by decide) ?_
        refine J.zreturn X dX5_putIn_61 (rfl) (jRi.of ?_)
        exact ⟨rfl, S⟩
      refine J.iload5 X dX5_putIn_39 ?_
      refine J.iconst (v := nI 1) X dX5_putIn_41 (by decide) ?_
      refine J.icmp_eqN (tgt := 51) X dX5_putIn_42 (by decide) (by omega) (by omega) (fun c1 => ?_) (fun c1 => ?_)
      · skip
        exact key
      · skip
        refine J.iload5 X dX5_putIn_45 ?_
        refine J.iconst (v := nI 2) X dX5_putIn_47 (by decide) ?_
        refine J.icmp_neN (tgt := 62) X dX5_putIn_48 (by decide) (by omega) (by omega) (fun c2 => ?_) (fun c2 => ?_)
        · skip
          exact absurd ht (fun z => z.elim c1 c2)
        · skip
          exact key
    · exact absurd ht h1
  · rcases hf with ⟨h1, -⟩ | ⟨-, rfl, hf⟩
    · exact absurd h1 ht
    have ht1 : wh g k ≠ 1 := fun z => ht (Or.inl z)
    have ht2 : wh g k ≠ 2 := fun z => ht (Or.inr z)
    unfold tputN at hf
    generalize hg3 : tput3 g k v x c = g3 at S hw3 hf
    refine J.iload5 X dX5_putIn_39 ?_
    refine J.iconst (v := nI 1) X dX5_putIn_41 (by decide) ?_
    refine J.icmp_eqN (tgt := 51) X dX5_putIn_42 (by decide) (by omega) (by omega) (fun q9 => absurd q9 (by omega)) (fun _ => ?_)
    refine J.iload5 X dX5_putIn_45 ?_
    refine J.iconst (v := nI 2) X dX5_putIn_47 (by decide) ?_
    refine J.icmp_neN (tgt := 62) X dX5_putIn_48 (by decide) (by omega) (by omega) (fun _ => ?_) (fun q9 => absurd q9 (by omega))
    -- the chances
    have key7 : ∀ h : JIH, TwS K hE h A (tput7 g3 k (wh g k) c) sv kp go tx ac ky wt mn ts tz tp mv i0 (nI n) i2 i3 i4 i5 → J M h 124 [some (.ref A), some (.int (nI k)), some (.int v), some (.int x), some (.int c), some (.int (nI (wh g k)))] [] := by
      intro h S
      have hw7 := hw3.put7 k (wh g k) c
      generalize hg7 : tput7 g3 k (wh g k) c = g7 at S hw7 hf
      have key8 : ∀ h : JIH, TwS K hE h A (tput8 g7 (wh g k) x) sv kp go tx ac ky wt mn ts tz tp mv i0 (nI n) i2 i3 i4 i5 → J M h 223 [some (.ref A), some (.int (nI k)), some (.int v), some (.int x), some (.int c), some (.int (nI (wh g k)))] [] := by
        intro h S
        have hw8 := hw7.put8 (wh g k) x
        generalize hg8 : tput8 g7 (wh g k) x = g8 at S hw8 hf
        by_cases h0 : wh g k = 0
        · rw [if_pos h0] at hf
          refine J.aload0 X dX5_putIn_223 ?_
          refine J.iload1 X dX5_putIn_224 ?_
          refine J.iload5 X dX5_putIn_225 ?_
          refine J.if_neN (tgt := 234) X dX5_putIn_227 (by decide) (by omega) (fun q9 => absurd q9 (by omega)) (fun _ => ?_)
          refine J.iconst (v := nI 1) X dX5_putIn_230 (by decide) ?_
          refine J.goto (tgt := 235) X dX5_putIn_231 (by decide) ?_
          refine J.callVv X dX5_putIn_235 lk_X5_58_X5 ce_X5_goes (tw_goes F S.1 hw8 hk (by omega)) (by decide) rfl (S.o) rfl (fun h' S' _ => ?_)
          replace S := S.tr S'
          refine J.aload0 X dX5_putIn_238 ?_
          refine J.callVv X dX5_putIn_239 lk_X5_86_X5 ce_X5_trim (tw_trim F S.1 (hw8.goes hk (by omega)) hn hf) (by decide) rfl (S.o) rfl (fun h' S' _ => ?_)
          replace S := S.tr S'
          refine J.iload5 X dX5_putIn_242 ?_
          refine J.if_neN (tgt := 251) X dX5_putIn_244 (by decide) (by omega) (fun q9 => absurd q9 (by omega)) (fun _ => ?_)
          refine J.iconst (v := nI 0) X dX5_putIn_247 (by decide) ?_
          refine J.goto (tgt := 252) X dX5_putIn_248 (by decide) ?_
          refine J.zreturn X dX5_putIn_252 (rfl) (jRi.of ?_)
          exact ⟨by rw [if_pos h0], S⟩
        · rw [if_neg h0] at hf
          refine J.aload0 X dX5_putIn_223 ?_
          refine J.iload1 X dX5_putIn_224 ?_
          refine J.iload5 X dX5_putIn_225 ?_
          refine J.if_neN (tgt := 234) X dX5_putIn_227 (by decide) (by omega) (fun _ => ?_) (fun q9 => absurd q9 (by omega))
          refine J.iconst (v := nI 2) X dX5_putIn_234 (by decide) ?_
          refine J.callVv X dX5_putIn_235 lk_X5_58_X5 ce_X5_goes (tw_goes F S.1 hw8 hk (by omega)) (by decide) rfl (S.o) rfl (fun h' S' _ => ?_)
          replace S := S.tr S'
          refine J.aload0 X dX5_putIn_238 ?_
          refine J.callVv X dX5_putIn_239 lk_X5_86_X5 ce_X5_trim (tw_trim F S.1 (hw8.goes hk (by omega)) hn hf) (by decide) rfl (S.o) rfl (fun h' S' _ => ?_)
          replace S := S.tr S'
          refine J.iload5 X dX5_putIn_242 ?_
          refine J.if_neN (tgt := 251) X dX5_putIn_244 (by decide) (by omega) (fun _ => ?_) (fun q9 => absurd q9 (by omega))
          refine J.iconst (v := nI 1) X dX5_putIn_251 (by decide) ?_
          refine J.zreturn X dX5_putIn_252 (rfl) (jRi.of ?_)
          exact ⟨by rw [if_neg h0], S⟩
      refine J.iload5 X dX5_putIn_124 ?_
      refine J.iconst (v := nI 3) X dX5_putIn_126 (by decide) ?_
      refine J.icmp_neN (tgt := 167) X dX5_putIn_127 (by decide) (by omega) (by omega) (fun c3 => ?_) (fun c3 => ?_)
      · skip
        refine J.iload5 X dX5_putIn_167 ?_
        refine J.iconst (v := nI 4) X dX5_putIn_169 (by decide) ?_
        refine J.icmp_neN (tgt := 223) X dX5_putIn_170 (by decide) (by omega) (by omega) (fun c4 => ?_) (fun c4 => ?_)
        · skip
          rw [show tput8 g7 (wh g k) x = g7 by unfold tput8; rw [if_neg c3, if_neg c4]] at key8
          exact key8 _ S
        · skip
          rw [show tput8 g7 (wh g k) x = upd g7 3201 (if g7 3201 + x < g7 3200 then g7 3201 + x else g7 3200) by unfold tput8; rw [if_neg c3, if_pos c4]] at key8
          refine J.aload0 X dX5_putIn_173 ?_
          refine J.getf X dX5_putIn_174 fl_X5_11_X5 (S.o) rfl ?_
          refine J.sipush (v := nI 3201) X dX5_putIn_177 (by decide) ?_
          refine J.aload0 X dX5_putIn_180 ?_
          refine J.getf X dX5_putIn_181 fl_X5_11_X5 (S.o) rfl ?_
          refine J.sipush (v := nI 3201) X dX5_putIn_184 (by decide) ?_
          refine J.iald X dX5_putIn_187 (S.r_g) (rfl) (by omega) ?_
          refine J.iload3 X dX5_putIn_188 ?_
          refine J.iadd X dX5_putIn_189 ?_
          refine J.aload0 X dX5_putIn_190 ?_
          refine J.getf X dX5_putIn_191 fl_X5_11_X5 (S.o) rfl ?_
          refine J.sipush (v := nI 3200) X dX5_putIn_194 (by decide) ?_
          refine J.at (pc' := 197) rfl ?_
          refine J.iald X dX5_putIn_197 (S.r_g) (rfl) (by omega) ?_
          refine J.icmp_ge (tgt := 214) X dX5_putIn_198 (by decide) (fun c5 => ?_) (fun c5 => ?_)
          · skip
            rw [if_neg (Int32.not_lt.mpr c5)] at key8
            refine J.aload0 X dX5_putIn_214 ?_
            refine J.getf X dX5_putIn_215 fl_X5_11_X5 (S.o) rfl ?_
            refine J.sipush (v := nI 3200) X dX5_putIn_218 (by decide) ?_
            refine J.iald X dX5_putIn_221 (S.r_g) (rfl) (by omega) ?_
            refine J.tw_g X dX5_putIn_222 S (rfl) (by omega) (fun h S => ?_)
            exact key8 _ S
          · skip
            rw [if_pos (Int32.not_le.mp c5)] at key8
            refine J.aload0 X dX5_putIn_201 ?_
            refine J.getf X dX5_putIn_202 fl_X5_11_X5 (S.o) rfl ?_
            refine J.sipush (v := nI 3201) X dX5_putIn_205 (by decide) ?_
            refine J.iald X dX5_putIn_208 (S.r_g) (rfl) (by omega) ?_
            refine J.iload3 X dX5_putIn_209 ?_
            refine J.iadd X dX5_putIn_210 ?_
            refine J.goto (tgt := 222) X dX5_putIn_211 (by decide) ?_
            refine J.tw_g X dX5_putIn_222 S (rfl) (by omega) (fun h S => ?_)
            exact key8 _ S
      · skip
        rw [show tput8 g7 (wh g k) x = upd g7 3201 (if x < g7 3201 then g7 3201 - x else nI 0) by unfold tput8; rw [if_pos c3]] at key8
        refine J.aload0 X dX5_putIn_130 ?_
        refine J.getf X dX5_putIn_131 fl_X5_11_X5 (S.o) rfl ?_
        refine J.sipush (v := nI 3201) X dX5_putIn_134 (by decide) ?_
        refine J.aload0 X dX5_putIn_137 ?_
        refine J.getf X dX5_putIn_138 fl_X5_11_X5 (S.o) rfl ?_
        refine J.sipush (v := nI 3201) X dX5_putIn_141 (by decide) ?_
        refine J.iald X dX5_putIn_144 (S.r_g) (rfl) (by omega) ?_
        refine J.iload3 X dX5_putIn_145 ?_
        refine J.icmp_le (tgt := 162) X dX5_putIn_146 (by decide) (fun c5 => ?_) (fun c5 => ?_)
        · skip
          rw [if_neg (Int32.not_lt.mpr c5)] at key8
          refine J.iconst (v := nI 0) X dX5_putIn_162 (by decide) ?_
          refine J.tw_g X dX5_putIn_163 S (rfl) (by omega) (fun h S => ?_)
          refine J.goto (tgt := 223) X dX5_putIn_164 (by decide) ?_
          exact key8 _ S
        · skip
          rw [if_pos (Int32.not_le.mp c5)] at key8
          refine J.aload0 X dX5_putIn_149 ?_
          refine J.getf X dX5_putIn_150 fl_X5_11_X5 (S.o) rfl ?_
          refine J.sipush (v := nI 3201) X dX5_putIn_153 (by decide) ?_
          refine J.iald X dX5_putIn_156 (S.r_g) (rfl) (by omega) ?_
          refine J.iload3 X dX5_putIn_157 ?_
          refine J.isub X dX5_putIn_158 ?_
          refine J.goto (tgt := 163) X dX5_putIn_159 (by decide) ?_
          refine J.tw_g X dX5_putIn_163 S (rfl) (by omega) (fun h S => ?_)
          refine J.goto (tgt := 223) X dX5_putIn_164 (by decide) ?_
          exact key8 _ S
    refine J.aload0 X dX5_putIn_62 ?_
    refine J.getf X dX5_putIn_63 fl_X5_11_X5 (S.o) rfl ?_
    refine J.sipush (v := nI 3213) X dX5_putIn_66 (by decide) ?_
    refine J.dup2 X dX5_putIn_69 ?_
    refine J.iald X dX5_putIn_70 (S.r_g) (rfl) (by omega) ?_
    refine J.iload4 X dX5_putIn_71 ?_
    refine J.iadd X dX5_putIn_73 ?_
    refine J.tw_g X dX5_putIn_74 S (rfl) (by omega) (fun h S => ?_)
    refine J.aload0 X dX5_putIn_75 ?_
    refine J.getf X dX5_putIn_76 fl_X5_11_X5 (S.o) rfl ?_
    refine J.sipush (v := nI 1600) X dX5_putIn_79 (by decide) ?_
    refine J.iload1 X dX5_putIn_82 ?_
    refine J.at (pc' := 83) rfl ?_
    refine J.iaddN X dX5_putIn_83 ?_
    refine J.iconst (v := nI 0) X dX5_putIn_84 (by decide) ?_
    refine J.tw_g X dX5_putIn_85 S (rfl) (by omega) (fun h S => ?_)
    refine J.aload0 X dX5_putIn_86 ?_
    refine J.getf X dX5_putIn_87 fl_X5_11_X5 (S.o) rfl ?_
    refine J.sipush (v := nI 2400) X dX5_putIn_90 (by decide) ?_
    refine J.iload1 X dX5_putIn_93 ?_
    refine J.iaddN X dX5_putIn_94 ?_
    refine J.iconst (v := nI 0) X dX5_putIn_95 (by decide) ?_
    refine J.tw_g X dX5_putIn_96 S (rfl) (by omega) (fun h S => ?_)
    refine J.aload0 X dX5_putIn_97 ?_
    refine J.getf X dX5_putIn_98 fl_X5_11_X5 (S.o) rfl ?_
    refine J.at (pc' := 101) rfl ?_
    refine J.sipush (v := nI 2000) X dX5_putIn_101 (by decide) ?_
    refine J.iload1 X dX5_putIn_104 ?_
    refine J.iaddN X dX5_putIn_105 ?_
    refine J.iload5 X dX5_putIn_106 ?_
    refine J.if_neN (tgt := 122) X dX5_putIn_108 (by decide) (by omega) (fun c3 => ?_) (fun c3 => ?_)
    · skip
      refine J.iconst (v := nI 0) X dX5_putIn_122 (by decide) ?_
      refine J.tw_g X dX5_putIn_123 S (rfl) (by omega) (fun h S => ?_)
      refine key7 _ ?_
      simp only [tput7, if_neg c3]
      exact S
    · skip
      refine J.aload0 X dX5_putIn_111 ?_
      refine J.getf X dX5_putIn_112 fl_X5_11_X5 (S.o) rfl ?_
      refine J.sipush (v := nI 3203) X dX5_putIn_115 (by decide) ?_
      refine J.iald X dX5_putIn_118 (S.r_g) (rfl) (by omega) ?_
      refine J.goto (tgt := 123) X dX5_putIn_119 (by decide) ?_
      refine J.tw_g X dX5_putIn_123 S (rfl) (by omega) (fun h S => ?_)
      refine key7 _ ?_
      simp only [tput7, if_pos c3]
      exact S
