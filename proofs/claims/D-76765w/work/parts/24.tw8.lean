/-! the model: thought runs; an array's content may be renamed where it isn't seen -/
theorem arrV_ext {cI : ClassId} {N : Nat} {f f' : Nat → Value} (h : ∀ j, j < N → f' j = f j) : arrV cI N f' = arrV cI N f := by
  unfold arrV
  congr 1
  exact congrArg Array.ofFn (funext fun j => h j.val j.isLt)
section JR
variable {M : JM} {K : JK} {l0 : Launch} {cc : ByteArray} {own : String} {nL : Nat} {ret : Option FieldType} {nm : String} {hh : List (Nat × Nat × Nat × Nat)} {lv : Nat} {h0 : JIH} {QR : JQR} {QX : JQX} {h hs : JIH} {pc : Nat} {ls : List (Option Value)} {st : List Value}
theorem J.relabel {a t n : Nat} {f f' : Nat → Int32} (X : JX M K l0 cc own nL ret nm hh lv h0 QR QX) (ha : hget h a = some (jA K t n f)) (e : ∀ j, j < n → f' j = f j) (k : J M (hset h a (jA K t n f')) pc ls st) : J M h pc ls st := by
  obtain ⟨K1, h1, R1, X1, p, l, e0, R, s, m, args, below, meth, c⟩ := M
  obtain ⟨⟨rfl, rfl, rfl, rfl, rfl⟩, X⟩ := X
  intro H locs la hH hlo hla hg
  have k' := k H locs la ⟨by rw [hset_1]; exact hH.1, by rw [hnew_set]; exact hH.2.1, fun b eb hb => ?_, fun q hq => hH.2.2.2.1 q (by rw [hset_1] at hq; exact hq), by rw [hres_set (e := jA K1 t n f') ha rfl]; exact hH.2.2.2.2⟩ hlo hla (hg.set ha rfl)
  · rw [hset_len, hsl_set (e := jA K1 t n f') ha rfl] at k'
    exact k'
  · by_cases q : a = b
    · subst q
      rw [hget_set_same _ ha] at hb
      cases hb
      have h2 : H[a]? = some (arrV (K1.2.1 t) n (fun j => .int (f j))) := hH.2.2.1 _ _ ha
      show H[a]? = some (arrV (K1.2.1 t) n (fun j => .int (f' j)))
      rw [h2, arrV_ext (f' := fun j => .int (f' j)) (f := fun j => .int (f j)) (fun j hj => by rw [e j hj])]
    · rw [hget_set_ne _ q] at hb
      exact hH.2.2.1 b eb hb
variable {A : Nat} {g1 : Nat → Int32} {g sv kp go tx ac ky wt mn ts tz : Nat → Int32} {tp : Nat → Nat → Int64} {mv : Nat → Int64} {i0 i1 i2 i3 i4 i5 : Int32}
theorem J.tw_same (X : JX M K l0 cc own nL ret nm hh lv h0 QR QX) (S : TwS K hs h A (g1) sv kp go tx ac ky wt mn ts tz tp mv i0 i1 i2 i3 i4 i5) (e : ∀ j, j < 3253 → g j = g1 j) (k : ∀ h' : JIH, TwS K hs h' A g sv kp go tx ac ky wt mn ts tz tp mv i0 i1 i2 i3 i4 i5 → J M h' pc ls st) : J M h pc ls st := J.relabel X S.r_g e (k _ S.w_g)
end JR
theorem tcp2 {g sv g1 : Nat → Int32} : ∀ j, j < 3253 → g j = tcp 3253 (tcp 3253 g sv) g1 j := fun j hj => by rw [tcp_lt hj, tcp_lt hj]
def tvicAR (f : Nat) (g go : Nat → Int32) (k : Int32) (r : Int32) (go' : Nat → Int32) (n' : Nat) : Prop := ¬ k < 0 ∧ ∃ g1, ttrim f (upd (upd g 3201 (nI 0)) 3200 (nI 0)) go 0 g1 go' n' ∧ ((nI n' ≤ k ∧ r = -5) ∨ ∃ j, j < n' ∧ k = nI j ∧ r = go' j)
theorem tw_victim0 {K : JK} {l : Launch} {hE : JIH} {A : Nat} (F : JF K) {k : Int32} (hk : k < 0) :
    Ct K l yX5_victim wX5_victim 5 [.ref A, .int k] hE (jRi (fun r0 h' => r0 = -1 ∧ hE = h')) jNo := by
  refine st_X5_victim (ls := [some (.ref A), some (.int k), none]) F rfl (body := fun M X => ?_)
  refine J.iload1 X dX5_victim_0 ?_
  refine J.if_ge (tgt := 6) X dX5_victim_1 (by decide) (fun c1 => ?_) (fun c1 => ?_)
  · skip
    exact absurd hk (Int32.not_lt.mpr c1)
  · skip
    refine J.iconst (v := -1) X dX5_victim_4 (by decide) ?_
    refine J.zreturn X dX5_victim_5 (rfl) (jRi.of ?_)
    exact ⟨rfl, rfl⟩
theorem tw_victim {K : JK} {l : Launch} {hE : JIH} {A : Nat} {g sv kp go tx ac ky wt mn ts tz : Nat → Int32} {tp : Nat → Nat → Int64} {mv : Nat → Int64} {i0 i1 i2 i3 i4 i5 : Int32} (F : JF K) (T : TwR K hE A g sv kp go tx ac ky wt mn ts tz tp mv i0 i1 i2 i3 i4 i5) (hw : WG g) {k r : Int32} {f : Nat} {go' : Nat → Int32} {n' : Nat} (hf : tvicAR f g go k r go' n') :
    Ct K l yX5_victim wX5_victim 5 [.ref A, .int k] hE (jRi (fun r0 h' => r0 = r ∧ n' ≤ 400 ∧ TwS K hE h' A g (tcp 3253 g sv) kp (go') tx ac ky wt mn ts tz tp mv i0 (nI n') i2 i3 i4 i5)) jNo := by
  obtain ⟨hk, g1, hf, hr⟩ := hf
  have hw0 : WG (upd (upd g 3201 (nI 0)) 3200 (nI 0)) := (hw.upd (by omega) _).upd (by omega) _
  have hn := (hf.WG hw0 (by omega)).2
  refine st_X5_victim (ls := [some (.ref A), some (.int k), none]) F rfl (body := fun M X => ?_)
  have S := T.S
  refine J.iload1 X dX5_victim_0 ?_
  refine J.if_ge (tgt := 6) X dX5_victim_1 (by decide) (fun c1 => ?_) (fun c1 => ?_)
  · skip
    refine J.aload0 X dX5_victim_6 ?_
    refine J.getf X dX5_victim_7 fl_X5_11_X5 (S.o) rfl ?_
    refine J.aload0 X dX5_victim_10 ?_
    refine J.getf X dX5_victim_11 fl_X5_15_X5 (S.o) rfl ?_
    refine J.callSv X dX5_victim_14 lk_X5_120 ce_X5_copy (tw_cp_sv F S.1) (by decide) rfl (fun h' S' _ => ?_)
    replace S := S.tr S'
    refine J.aload0 X dX5_victim_17 ?_
    refine J.iconst (v := nI 0) X dX5_victim_18 (by decide) ?_
    refine J.tw_i1 X dX5_victim_19 (pl_X5_62_X5 _) S (rfl) (rfl) (fun h S => ?_)
    refine J.aload0 X dX5_victim_22 ?_
    refine J.getf X dX5_victim_23 fl_X5_11_X5 (S.o) rfl ?_
    refine J.sipush (v := nI 3201) X dX5_victim_26 (by decide) ?_
    refine J.iconst (v := nI 0) X dX5_victim_29 (by decide) ?_
    refine J.tw_g X dX5_victim_30 S (rfl) (by omega) (fun h S => ?_)
    refine J.aload0 X dX5_victim_31 ?_
    refine J.getf X dX5_victim_32 fl_X5_11_X5 (S.o) rfl ?_
    refine J.sipush (v := nI 3200) X dX5_victim_35 (by decide) ?_
    refine J.iconst (v := nI 0) X dX5_victim_38 (by decide) ?_
    refine J.at (pc' := 39) rfl ?_
    refine J.tw_g X dX5_victim_39 S (rfl) (by omega) (fun h S => ?_)
    refine J.aload0 X dX5_victim_40 ?_
    refine J.callVv X dX5_victim_41 lk_X5_86_X5 ce_X5_trim (tw_trim (n := 0) F S.1 hw0 (by omega) hf) (by decide) rfl (S.o) rfl (fun h' S' _ => ?_)
    replace S := S.tr S'
    have key : J M h' 63 [some (.ref A), some (.int k), none] [.int r] := by
      refine J.istore2 X dX5_victim_63 ?_
      refine J.aload0 X dX5_victim_64 ?_
      refine J.getf X dX5_victim_65 fl_X5_15_X5 (S.o) rfl ?_
      refine J.aload0 X dX5_victim_68 ?_
      refine J.getf X dX5_victim_69 fl_X5_11_X5 (S.o) rfl ?_
      refine J.callSv X dX5_victim_72 lk_X5_120 ce_X5_copy (tw_cp_g F S.1) (by decide) rfl (fun h' S' _ => ?_)
      replace S := S.tr S'
      refine J.tw_same X S tcp2 (fun h S => ?_)
      refine J.iload2 X dX5_victim_75 ?_
      refine J.zreturn X dX5_victim_76 (rfl) (jRi.of ?_)
      exact ⟨rfl, hn, S⟩
    rcases hr with ⟨h1, rfl⟩ | ⟨j, hj, rfl, rfl⟩
    · skip
      refine J.iload1 X dX5_victim_44 ?_
      refine J.aload0 X dX5_victim_45 ?_
      refine J.getf X dX5_victim_46 fl_X5_62_X5 (S.o) rfl ?_
      refine J.icmp_ge (tgt := 61) X dX5_victim_49 (by decide) (fun c2 => ?_) (fun c2 => ?_)
      · skip
        refine J.bipush (v := -5) X dX5_victim_61 (by decide) ?_
        exact key
      · skip
        exact absurd h1 c2
    · skip
      refine J.iload1 X dX5_victim_44 ?_
      refine J.aload0 X dX5_victim_45 ?_
      refine J.getf X dX5_victim_46 fl_X5_62_X5 (S.o) rfl ?_
      refine J.icmp_geN (tgt := 61) X dX5_victim_49 (by decide) (by omega) (by omega) (fun q9 => absurd q9 (by omega)) (fun _ => ?_)
      refine J.aload0 X dX5_victim_52 ?_
      refine J.getf X dX5_victim_53 fl_X5_21_X5 (S.o) rfl ?_
      refine J.iload1 X dX5_victim_56 ?_
      refine J.iald X dX5_victim_57 (S.r_go) (rfl) (by omega) ?_
      refine J.goto (tgt := 63) X dX5_victim_58 (by decide) ?_
      exact key
  · skip
    exact absurd (Int32.not_lt.mp hk) c1
/-- what a thought run leaves for an answer -/
def twldV (g g1 : Nat → Int32) (w : Nat) : Int32 := if w = 3 then g1 3201 else if w = 4 then g1 3205 + g1 3206 else if w = 5 then g1 3214 - g 3214 else g1 (3209 + w) - g (3209 + w)
theorem tw_would0 {K : JK} {l : Launch} {hE : JIH} {A : Nat} {g sv kp go tx ac ky wt mn ts tz : Nat → Int32} {tp : Nat → Nat → Int64} {mv : Nat → Int64} {i0 i1 i2 i4 i5 : Int32} (F : JF K) {c : Nat} (T : TwR K hE A g sv kp go tx ac ky wt mn ts tz tp mv i0 i1 i2 (nI c) i4 i5) {t w : Int32} (hf : ¬ ((nI 0 ≤ t ∧ t ≤ nI c - nI 1) ∧ (nI 0 ≤ w ∧ w ≤ nI 5))) :
    Ct K l yX5_would wX5_would 6 [.ref A, .int t, .int w] hE (jRi (fun r0 h' => r0 = -1 ∧ hE = h')) jNo := by
  refine st_X5_would (ls := [some (.ref A), some (.int t), some (.int w), none]) F rfl (body := fun M X => ?_)
  have S := T.S
  refine J.aload0 X dX5_would_0 ?_
  refine J.iload1 X dX5_would_1 ?_
  refine J.callVi X dX5_would_2 lk_X5_145_X5 ce_X5_isTrace (tw_isTrace F S.1 t) (by decide) rfl (S.o) rfl (fun r h' e _ => ?_)
  obtain ⟨rfl, rfl⟩ := e
  refine J.if_eqB (tgt := 17) X dX5_would_5 (by decide) (fun c1 => ?_) (fun c1 => ?_)
  · skip
    refine J.iconst (v := -1) X dX5_would_17 (by decide) ?_
    refine J.zreturn X dX5_would_18 (rfl) (jRi.of ?_)
    exact ⟨rfl, rfl⟩
  · skip
    refine J.iload2 X dX5_would_8 ?_
    refine J.iconst (v := nI 0) X dX5_would_9 (by decide) ?_
    refine J.iconst (v := nI 5) X dX5_would_10 (by decide) ?_
    refine J.callSi X dX5_would_11 lk_X5_54 ce_X5_in (tw_in F w 0 5) (by decide) rfl (fun r h' e _ => ?_)
    obtain ⟨rfl, rfl⟩ := e
    refine J.if_neB (tgt := 19) X dX5_would_14 (by decide) (fun c2 => ?_) (fun c2 => ?_)
    · skip
      exact absurd ⟨c1, c2⟩ hf
    · skip
      refine J.iconst (v := -1) X dX5_would_17 (by decide) ?_
      refine J.zreturn X dX5_would_18 (rfl) (jRi.of ?_)
      exact ⟨rfl, rfl⟩
theorem tw_would {K : JK} {l : Launch} {hE : JIH} {A : Nat} {g sv kp go tx ac ky wt mn ts tz : Nat → Int32} {tp : Nat → Nat → Int64} {mv : Nat → Int64} {i0 i2 i4 i5 : Int32} (F : JF K) {n c : Nat} (T : TwR K hE A g sv kp go tx ac ky wt mn ts tz tp mv i0 (nI n) i2 (nI c) i4 i5) (hc : c ≤ 6) (hw : WG g) (hn : n ≤ 400) {j m w f : Nat} (hj : j < c) (hw5 : w ≤ 5) (hm : m ≤ 20) (hmn : mn j = nI m) {g1 go' : Nat → Int32} {n' : Nat} (hf : trunsR f ac ky wt m (j * 20) g go n g1 go' n') :
    Ct K l yX5_would wX5_would 6 [.ref A, .int (nI j), .int (nI w)] hE (jRi (fun r0 h' => r0 = twldV g g1 w ∧ TwS K hE h' A g (tcp 3253 g sv) kp (go') tx ac ky wt mn ts tz tp mv i0 (nI n') i2 (nI c) i4 i5)) jNo := by
  refine st_X5_would (ls := [some (.ref A), some (.int (nI j)), some (.int (nI w)), none]) F rfl (body := fun M X => ?_)
  have S := T.S
  refine J.aload0 X dX5_would_0 ?_
  refine J.iload1 X dX5_would_1 ?_
  refine J.callVi X dX5_would_2 lk_X5_145_X5 ce_X5_isTrace (tw_isTrace F S.1 (nI j)) (by decide) rfl (S.o) rfl (fun r h' e _ => ?_)
  obtain ⟨rfl, rfl⟩ := e
  refine J.if_eqB (tgt := 17) X dX5_would_5 (by decide) (fun q9 => absurd q9 (fun z => z (nat_trace hc hj))) (fun _ => ?_)
  refine J.iload2 X dX5_would_8 ?_
  refine J.iconst (v := nI 0) X dX5_would_9 (by decide) ?_
  refine J.iconst (v := nI 5) X dX5_would_10 (by decide) ?_
  refine J.callSi X dX5_would_11 lk_X5_54 ce_X5_in (tw_in F (nI w) 0 5) (by decide) rfl (fun r h' e _ => ?_)
  obtain ⟨rfl, rfl⟩ := e
  refine J.if_neB (tgt := 19) X dX5_would_14 (by decide) (fun _ => ?_) (fun q9 => absurd q9 (fun z => z (nat_in (by decide) hw5)))
  refine J.aload0 X dX5_would_19 ?_
  refine J.getf X dX5_would_20 fl_X5_11_X5 (S.o) rfl ?_
  refine J.aload0 X dX5_would_23 ?_
  refine J.getf X dX5_would_24 fl_X5_15_X5 (S.o) rfl ?_
  refine J.callSv X dX5_would_27 lk_X5_120 ce_X5_copy (tw_cp_sv F S.1) (by decide) rfl (fun h' S' _ => ?_)
  replace S := S.tr S'
  refine J.aload0 X dX5_would_30 ?_
  refine J.iload1 X dX5_would_31 ?_
  refine J.callVi X dX5_would_32 lk_X5_148_X5 ce_X5_runs (tw_runs F S.1 hw hn (by omega) hmn hm hf) (by decide) rfl (S.o) rfl (fun r h' z _ => ?_)
  obtain ⟨-, S'⟩ := z
  replace S := S.tr S'
  refine J.pop X dX5_would_35 ?_
  refine J.iload2 X dX5_would_36 ?_
  have key : J M h' 140 [some (.ref A), some (.int (nI j)), some (.int (nI w)), some (.int (twldV g g1 w))] [] := by
    refine J.aload0 X dX5_would_140 ?_
    refine J.getf X dX5_would_141 fl_X5_15_X5 (S.o) rfl ?_
    refine J.aload0 X dX5_would_144 ?_
    refine J.getf X dX5_would_145 fl_X5_11_X5 (S.o) rfl ?_
    refine J.callSv X dX5_would_148 lk_X5_120 ce_X5_copy (tw_cp_g F S.1) (by decide) rfl (fun h' S' _ => ?_)
    replace S := S.tr S'
    refine J.tw_same X S tcp2 (fun h S => ?_)
    refine J.iload3 X dX5_would_151 ?_
    refine J.zreturn X dX5_would_152 (rfl) (jRi.of ?_)
    exact ⟨rfl, S⟩
  rcases (show w = 0 ∨ w = 1 ∨ w = 2 ∨ w = 3 ∨ w = 4 ∨ w = 5 by omega) with rfl | rfl | rfl | rfl | rfl | rfl
  · skip
    refine J.tsOut (tgt := 118) X dX5_would_37 (by decide) (by decide) ?_
    refine J.aload0 X dX5_would_118 ?_
    refine J.getf X dX5_would_119 fl_X5_11_X5 (S.o) rfl ?_
    refine J.sipush (v := nI 3209) X dX5_would_122 (by decide) ?_
    refine J.iload2 X dX5_would_125 ?_
    refine J.iaddN X dX5_would_126 ?_
    refine J.iald X dX5_would_127 (S.r_g) (rfl) (by omega) ?_
    refine J.aload0 X dX5_would_128 ?_
    refine J.getf X dX5_would_129 fl_X5_15_X5 (S.o) rfl ?_
    refine J.sipush (v := nI 3209) X dX5_would_132 (by decide) ?_
    refine J.iload2 X dX5_would_135 ?_
    refine J.iaddN X dX5_would_136 ?_
    refine J.iald X dX5_would_137 (S.r_sv) (rfl) (by omega) ?_
    refine J.at (pc' := 138) rfl ?_
    refine J.isub X dX5_would_138 ?_
    refine J.istore3 X dX5_would_139 ?_
    exact key
  · skip
    refine J.tsOut (tgt := 118) X dX5_would_37 (by decide) (by decide) ?_
    refine J.aload0 X dX5_would_118 ?_
    refine J.getf X dX5_would_119 fl_X5_11_X5 (S.o) rfl ?_
    refine J.sipush (v := nI 3209) X dX5_would_122 (by decide) ?_
    refine J.iload2 X dX5_would_125 ?_
    refine J.iaddN X dX5_would_126 ?_
    refine J.iald X dX5_would_127 (S.r_g) (rfl) (by omega) ?_
    refine J.aload0 X dX5_would_128 ?_
    refine J.getf X dX5_would_129 fl_X5_15_X5 (S.o) rfl ?_
    refine J.sipush (v := nI 3209) X dX5_would_132 (by decide) ?_
    refine J.iload2 X dX5_would_135 ?_
    refine J.iaddN X dX5_would_136 ?_
    refine J.iald X dX5_would_137 (S.r_sv) (rfl) (by omega) ?_
    refine J.at (pc' := 138) rfl ?_
    refine J.isub X dX5_would_138 ?_
    refine J.istore3 X dX5_would_139 ?_
    exact key
  · skip
    refine J.tsOut (tgt := 118) X dX5_would_37 (by decide) (by decide) ?_
    refine J.aload0 X dX5_would_118 ?_
    refine J.getf X dX5_would_119 fl_X5_11_X5 (S.o) rfl ?_
    refine J.sipush (v := nI 3209) X dX5_would_122 (by decide) ?_
    refine J.iload2 X dX5_would_125 ?_
    refine J.iaddN X dX5_would_126 ?_
    refine J.iald X dX5_would_127 (S.r_g) (rfl) (by omega) ?_
    refine J.aload0 X dX5_would_128 ?_
    refine J.getf X dX5_would_129 fl_X5_15_X5 (S.o) rfl ?_
    refine J.sipush (v := nI 3209) X dX5_would_132 (by decide) ?_
    refine J.iload2 X dX5_would_135 ?_
    refine J.iaddN X dX5_would_136 ?_
    refine J.iald X dX5_would_137 (S.r_sv) (rfl) (by omega) ?_
    refine J.at (pc' := 138) rfl ?_
    refine J.isub X dX5_would_138 ?_
    refine J.istore3 X dX5_would_139 ?_
    exact key
  · skip
    refine J.tsIn (off := 27) (tgt := 64) X dX5_would_37 (by decide) (by decide) (by decide) (by decide) ?_
    refine J.aload0 X dX5_would_64 ?_
    refine J.getf X dX5_would_65 fl_X5_11_X5 (S.o) rfl ?_
    refine J.sipush (v := nI 3201) X dX5_would_68 (by decide) ?_
    refine J.iald X dX5_would_71 (S.r_g) (rfl) (by omega) ?_
    refine J.istore3 X dX5_would_72 ?_
    refine J.goto (tgt := 140) X dX5_would_73 (by decide) ?_
    exact key
  · skip
    refine J.tsIn (off := 39) (tgt := 76) X dX5_would_37 (by decide) (by decide) (by decide) (by decide) ?_
    refine J.aload0 X dX5_would_76 ?_
    refine J.getf X dX5_would_77 fl_X5_11_X5 (S.o) rfl ?_
    refine J.sipush (v := nI 3205) X dX5_would_80 (by decide) ?_
    refine J.iald X dX5_would_83 (S.r_g) (rfl) (by omega) ?_
    refine J.aload0 X dX5_would_84 ?_
    refine J.getf X dX5_would_85 fl_X5_11_X5 (S.o) rfl ?_
    refine J.sipush (v := nI 3206) X dX5_would_88 (by decide) ?_
    refine J.iald X dX5_would_91 (S.r_g) (rfl) (by omega) ?_
    refine J.iadd X dX5_would_92 ?_
    refine J.istore3 X dX5_would_93 ?_
    refine J.goto (tgt := 140) X dX5_would_94 (by decide) ?_
    exact key
  · skip
    refine J.tsIn (off := 60) (tgt := 97) X dX5_would_37 (by decide) (by decide) (by decide) (by decide) ?_
    refine J.aload0 X dX5_would_97 ?_
    refine J.getf X dX5_would_98 fl_X5_11_X5 (S.o) rfl ?_
    refine J.sipush (v := nI 3214) X dX5_would_101 (by decide) ?_
    refine J.iald X dX5_would_104 (S.r_g) (rfl) (by omega) ?_
    refine J.aload0 X dX5_would_105 ?_
    refine J.getf X dX5_would_106 fl_X5_15_X5 (S.o) rfl ?_
    refine J.sipush (v := nI 3214) X dX5_would_109 (by decide) ?_
    refine J.iald X dX5_would_112 (S.r_sv) (rfl) (by omega) ?_
    refine J.isub X dX5_would_113 ?_
    refine J.istore3 X dX5_would_114 ?_
    refine J.goto (tgt := 140) X dX5_would_115 (by decide) ?_
    exact key
