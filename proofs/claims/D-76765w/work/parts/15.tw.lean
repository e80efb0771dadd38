/-! the model's cells, at A .. A+19 -/
def twO (A : Nat) (i0 i1 i2 i3 i4 i5 : Int32) : List Value := [.ref (A + 1), .ref (A + 2), .ref (A + 3), .int i0, .ref (A + 4), .int i1, .ref (A + 5), .int i2, .ref (A + 6), .ref (A + 7), .ref (A + 8), .ref (A + 9), .int i3, .ref (A + 10), .ref (A + 11), .ref (A + 12), .ref (A + 19), .int i4, .int i5]
def TwR (K : JK) (h : JIH) (A : Nat) (g sv kp go tx ac ky wt mn ts tz : Nat → Int32) (tp : Nat → Nat → Int64) (mv : Nat → Int64) (i0 i1 i2 i3 i4 i5 : Int32) : Prop := hget h A = some (jO 5 (twO A i0 i1 i2 i3 i4 i5)) ∧ hget h (A + 1) = some (jA K 0 3253 g) ∧ hget h (A + 2) = some (jA K 0 3253 sv) ∧ hget h (A + 3) = some (jA K 0 3253 kp) ∧ hget h (A + 4) = some (jA K 0 400 go) ∧ hget h (A + 5) = some (jA K 0 100 tx) ∧ hget h (A + 6) = some (jA K 0 120 ac) ∧ hget h (A + 7) = some (jA K 0 120 ky) ∧ hget h (A + 8) = some (jA K 0 120 wt) ∧ hget h (A + 9) = some (jA K 0 6 mn) ∧ hget h (A + 10) = some (jA K 0 6 ts) ∧ hget h (A + 11) = some (jA K 0 6 tz) ∧ hget h (A + 12) = some (jAR K 10 6 (fun i => some (A + 13 + i))) ∧ (∀ r, r < 6 → hget h (A + 13 + r) = some (jAL K 60 (tp r))) ∧ hget h (A + 19) = some (jAL K 60 mv)
def TwF (h0 h : JIH) (A : Nat) : Prop := h.1 = h0.1 ∧ h.2.length = h0.2.length ∧ hsl h = hsl h0 ∧ (∀ a, htag h a = htag h0 a) ∧ ∀ a, (a < A ∨ A + 20 ≤ a) → hget h a = hget h0 a
theorem TwF.rf (h : JIH) (A : Nat) : TwF h h A := ⟨rfl, rfl, rfl, fun _ => rfl, fun _ _ => rfl⟩
theorem TwF.tr {a b c : JIH} {A : Nat} (f : TwF a b A) (g : TwF b c A) : TwF a c A := ⟨g.1.trans f.1, g.2.1.trans f.2.1, g.2.2.1.trans f.2.2.1, fun x => (g.2.2.2.1 x).trans (f.2.2.2.1 x), fun x hx => (g.2.2.2.2 x hx).trans (f.2.2.2.2 x hx)⟩
theorem TwF.set {h : JIH} {A k : Nat} {e0 e : va_E} (hk : k < 20) (hp : hget h (A + k) = some e0) (hz : esz e = esz e0) : TwF h (hset h (A + k) e) A := ⟨hset_1 _ _ _, hset_len _ _ _, hsl_set hp hz, htag_set _ _ _, fun a ha => hget_set_ne e (by omega)⟩
def TwS (K : JK) (h0 h : JIH) (A : Nat) (g sv kp go tx ac ky wt mn ts tz : Nat → Int32) (tp : Nat → Nat → Int64) (mv : Nat → Int64) (i0 i1 i2 i3 i4 i5 : Int32) : Prop := TwR K h A g sv kp go tx ac ky wt mn ts tz tp mv i0 i1 i2 i3 i4 i5 ∧ TwF h0 h A
section
variable {K : JK} {h0 h h2 : JIH} {A : Nat} {g sv kp go tx ac ky wt mn ts tz : Nat → Int32} {tp : Nat → Nat → Int64} {mv : Nat → Int64} {i0 i1 i2 i3 i4 i5 : Int32}
theorem TwR.S (T : TwR K h A g sv kp go tx ac ky wt mn ts tz tp mv i0 i1 i2 i3 i4 i5) : TwS K h h A g sv kp go tx ac ky wt mn ts tz tp mv i0 i1 i2 i3 i4 i5 := ⟨T, TwF.rf h A⟩
theorem TwS.tr (f : TwS K h0 h A g sv kp go tx ac ky wt mn ts tz tp mv i0 i1 i2 i3 i4 i5) {g' sv' kp' go' tx' ac' ky' wt' mn' ts' tz' : Nat → Int32} {tp' : Nat → Nat → Int64} {mv' : Nat → Int64} {i0' i1' i2' i3' i4' i5' : Int32} (g : TwS K h h2 A g' sv' kp' go' tx' ac' ky' wt' mn' ts' tz' tp' mv' i0' i1' i2' i3' i4' i5') : TwS K h0 h2 A g' sv' kp' go' tx' ac' ky' wt' mn' ts' tz' tp' mv' i0' i1' i2' i3' i4' i5' := ⟨g.1, f.2.tr g.2⟩
theorem TwS.o (S : TwS K h0 h A g sv kp go tx ac ky wt mn ts tz tp mv i0 i1 i2 i3 i4 i5) : hget h A = some (jO 5 (twO A i0 i1 i2 i3 i4 i5)) := S.1.1
theorem TwS.r_g (S : TwS K h0 h A g sv kp go tx ac ky wt mn ts tz tp mv i0 i1 i2 i3 i4 i5) : hget h (A + 1) = some (jA K 0 3253 g) := S.1.2.1
theorem TwS.r_sv (S : TwS K h0 h A g sv kp go tx ac ky wt mn ts tz tp mv i0 i1 i2 i3 i4 i5) : hget h (A + 2) = some (jA K 0 3253 sv) := S.1.2.2.1
theorem TwS.r_kp (S : TwS K h0 h A g sv kp go tx ac ky wt mn ts tz tp mv i0 i1 i2 i3 i4 i5) : hget h (A + 3) = some (jA K 0 3253 kp) := S.1.2.2.2.1
theorem TwS.r_go (S : TwS K h0 h A g sv kp go tx ac ky wt mn ts tz tp mv i0 i1 i2 i3 i4 i5) : hget h (A + 4) = some (jA K 0 400 go) := S.1.2.2.2.2.1
theorem TwS.r_tx (S : TwS K h0 h A g sv kp go tx ac ky wt mn ts tz tp mv i0 i1 i2 i3 i4 i5) : hget h (A + 5) = some (jA K 0 100 tx) := S.1.2.2.2.2.2.1
theorem TwS.r_ac (S : TwS K h0 h A g sv kp go tx ac ky wt mn ts tz tp mv i0 i1 i2 i3 i4 i5) : hget h (A + 6) = some (jA K 0 120 ac) := S.1.2.2.2.2.2.2.1
theorem TwS.r_ky (S : TwS K h0 h A g sv kp go tx ac ky wt mn ts tz tp mv i0 i1 i2 i3 i4 i5) : hget h (A + 7) = some (jA K 0 120 ky) := S.1.2.2.2.2.2.2.2.1
theorem TwS.r_wt (S : TwS K h0 h A g sv kp go tx ac ky wt mn ts tz tp mv i0 i1 i2 i3 i4 i5) : hget h (A + 8) = some (jA K 0 120 wt) := S.1.2.2.2.2.2.2.2.2.1
theorem TwS.r_mn (S : TwS K h0 h A g sv kp go tx ac ky wt mn ts tz tp mv i0 i1 i2 i3 i4 i5) : hget h (A + 9) = some (jA K 0 6 mn) := S.1.2.2.2.2.2.2.2.2.2.1
theorem TwS.r_ts (S : TwS K h0 h A g sv kp go tx ac ky wt mn ts tz tp mv i0 i1 i2 i3 i4 i5) : hget h (A + 10) = some (jA K 0 6 ts) := S.1.2.2.2.2.2.2.2.2.2.2.1
theorem TwS.r_tz (S : TwS K h0 h A g sv kp go tx ac ky wt mn ts tz tp mv i0 i1 i2 i3 i4 i5) : hget h (A + 11) = some (jA K 0 6 tz) := S.1.2.2.2.2.2.2.2.2.2.2.2.1
theorem TwS.r_tp (S : TwS K h0 h A g sv kp go tx ac ky wt mn ts tz tp mv i0 i1 i2 i3 i4 i5) : hget h (A + 12) = some (jAR K 10 6 (fun i => some (A + 13 + i))) := S.1.2.2.2.2.2.2.2.2.2.2.2.2.1
theorem TwS.r_row (S : TwS K h0 h A g sv kp go tx ac ky wt mn ts tz tp mv i0 i1 i2 i3 i4 i5) {r : Nat} (hr : r < 6) : hget h (A + 13 + r) = some (jAL K 60 (tp r)) := S.1.2.2.2.2.2.2.2.2.2.2.2.2.2.1 r hr
theorem TwS.r_mv (S : TwS K h0 h A g sv kp go tx ac ky wt mn ts tz tp mv i0 i1 i2 i3 i4 i5) : hget h (A + 19) = some (jAL K 60 mv) := S.1.2.2.2.2.2.2.2.2.2.2.2.2.2.2
theorem TwS.w_g {x' : Nat → Int32} (S : TwS K h0 h A g sv kp go tx ac ky wt mn ts tz tp mv i0 i1 i2 i3 i4 i5) : TwS K h0 (hset h (A + 1) (jA K 0 3253 x')) A x' sv kp go tx ac ky wt mn ts tz tp mv i0 i1 i2 i3 i4 i5 := by
  refine ⟨⟨?_, ?_, ?_, ?_, ?_, ?_, ?_, ?_, ?_, ?_, ?_, ?_, ?_, ?_, ?_⟩, S.2.tr (TwF.set (by omega) S.r_g rfl)⟩
  · rw [hget_set_ne _ (by omega)]; exact S.o
  · exact hget_set_same _ S.r_g
  · rw [hget_set_ne _ (by omega)]; exact S.r_sv
  · rw [hget_set_ne _ (by omega)]; exact S.r_kp
  · rw [hget_set_ne _ (by omega)]; exact S.r_go
  · rw [hget_set_ne _ (by omega)]; exact S.r_tx
  · rw [hget_set_ne _ (by omega)]; exact S.r_ac
  · rw [hget_set_ne _ (by omega)]; exact S.r_ky
  · rw [hget_set_ne _ (by omega)]; exact S.r_wt
  · rw [hget_set_ne _ (by omega)]; exact S.r_mn
  · rw [hget_set_ne _ (by omega)]; exact S.r_ts
  · rw [hget_set_ne _ (by omega)]; exact S.r_tz
  · rw [hget_set_ne _ (by omega)]; exact S.r_tp
  · intro r hr; rw [hget_set_ne _ (by omega)]; exact S.r_row hr
  · rw [hget_set_ne _ (by omega)]; exact S.r_mv
theorem TwS.w_sv {x' : Nat → Int32} (S : TwS K h0 h A g sv kp go tx ac ky wt mn ts tz tp mv i0 i1 i2 i3 i4 i5) : TwS K h0 (hset h (A + 2) (jA K 0 3253 x')) A g x' kp go tx ac ky wt mn ts tz tp mv i0 i1 i2 i3 i4 i5 := by
  refine ⟨⟨?_, ?_, ?_, ?_, ?_, ?_, ?_, ?_, ?_, ?_, ?_, ?_, ?_, ?_, ?_⟩, S.2.tr (TwF.set (by omega) S.r_sv rfl)⟩
  · rw [hget_set_ne _ (by omega)]; exact S.o
  · rw [hget_set_ne _ (by omega)]; exact S.r_g
  · exact hget_set_same _ S.r_sv
  · rw [hget_set_ne _ (by omega)]; exact S.r_kp
  · rw [hget_set_ne _ (by omega)]; exact S.r_go
  · rw [hget_set_ne _ (by omega)]; exact S.r_tx
  · rw [hget_set_ne _ (by omega)]; exact S.r_ac
  · rw [hget_set_ne _ (by omega)]; exact S.r_ky
  · rw [hget_set_ne _ (by omega)]; exact S.r_wt
  · rw [hget_set_ne _ (by omega)]; exact S.r_mn
  · rw [hget_set_ne _ (by omega)]; exact S.r_ts
  · rw [hget_set_ne _ (by omega)]; exact S.r_tz
  · rw [hget_set_ne _ (by omega)]; exact S.r_tp
  · intro r hr; rw [hget_set_ne _ (by omega)]; exact S.r_row hr
  · rw [hget_set_ne _ (by omega)]; exact S.r_mv
theorem TwS.w_kp {x' : Nat → Int32} (S : TwS K h0 h A g sv kp go tx ac ky wt mn ts tz tp mv i0 i1 i2 i3 i4 i5) : TwS K h0 (hset h (A + 3) (jA K 0 3253 x')) A g sv x' go tx ac ky wt mn ts tz tp mv i0 i1 i2 i3 i4 i5 := by
  refine ⟨⟨?_, ?_, ?_, ?_, ?_, ?_, ?_, ?_, ?_, ?_, ?_, ?_, ?_, ?_, ?_⟩, S.2.tr (TwF.set (by omega) S.r_kp rfl)⟩
  · rw [hget_set_ne _ (by omega)]; exact S.o
  · rw [hget_set_ne _ (by omega)]; exact S.r_g
  · rw [hget_set_ne _ (by omega)]; exact S.r_sv
  · exact hget_set_same _ S.r_kp
  · rw [hget_set_ne _ (by omega)]; exact S.r_go
  · rw [hget_set_ne _ (by omega)]; exact S.r_tx
  · rw [hget_set_ne _ (by omega)]; exact S.r_ac
  · rw [hget_set_ne _ (by omega)]; exact S.r_ky
  · rw [hget_set_ne _ (by omega)]; exact S.r_wt
  · rw [hget_set_ne _ (by omega)]; exact S.r_mn
  · rw [hget_set_ne _ (by omega)]; exact S.r_ts
  · rw [hget_set_ne _ (by omega)]; exact S.r_tz
  · rw [hget_set_ne _ (by omega)]; exact S.r_tp
  · intro r hr; rw [hget_set_ne _ (by omega)]; exact S.r_row hr
  · rw [hget_set_ne _ (by omega)]; exact S.r_mv
theorem TwS.w_go {x' : Nat → Int32} (S : TwS K h0 h A g sv kp go tx ac ky wt mn ts tz tp mv i0 i1 i2 i3 i4 i5) : TwS K h0 (hset h (A + 4) (jA K 0 400 x')) A g sv kp x' tx ac ky wt mn ts tz tp mv i0 i1 i2 i3 i4 i5 := by
  refine ⟨⟨?_, ?_, ?_, ?_, ?_, ?_, ?_, ?_, ?_, ?_, ?_, ?_, ?_, ?_, ?_⟩, S.2.tr (TwF.set (by omega) S.r_go rfl)⟩
  · rw [hget_set_ne _ (by omega)]; exact S.o
  · rw [hget_set_ne _ (by omega)]; exact S.r_g
  · rw [hget_set_ne _ (by omega)]; exact S.r_sv
  · rw [hget_set_ne _ (by omega)]; exact S.r_kp
  · exact hget_set_same _ S.r_go
  · rw [hget_set_ne _ (by omega)]; exact S.r_tx
  · rw [hget_set_ne _ (by omega)]; exact S.r_ac
  · rw [hget_set_ne _ (by omega)]; exact S.r_ky
  · rw [hget_set_ne _ (by omega)]; exact S.r_wt
  · rw [hget_set_ne _ (by omega)]; exact S.r_mn
  · rw [hget_set_ne _ (by omega)]; exact S.r_ts
  · rw [hget_set_ne _ (by omega)]; exact S.r_tz
  · rw [hget_set_ne _ (by omega)]; exact S.r_tp
  · intro r hr; rw [hget_set_ne _ (by omega)]; exact S.r_row hr
  · rw [hget_set_ne _ (by omega)]; exact S.r_mv
theorem TwS.w_tx {x' : Nat → Int32} (S : TwS K h0 h A g sv kp go tx ac ky wt mn ts tz tp mv i0 i1 i2 i3 i4 i5) : TwS K h0 (hset h (A + 5) (jA K 0 100 x')) A g sv kp go x' ac ky wt mn ts tz tp mv i0 i1 i2 i3 i4 i5 := by
  refine ⟨⟨?_, ?_, ?_, ?_, ?_, ?_, ?_, ?_, ?_, ?_, ?_, ?_, ?_, ?_, ?_⟩, S.2.tr (TwF.set (by omega) S.r_tx rfl)⟩
  · rw [hget_set_ne _ (by omega)]; exact S.o
  · rw [hget_set_ne _ (by omega)]; exact S.r_g
  · rw [hget_set_ne _ (by omega)]; exact S.r_sv
  · rw [hget_set_ne _ (by omega)]; exact S.r_kp
  · rw [hget_set_ne _ (by omega)]; exact S.r_go
  · exact hget_set_same _ S.r_tx
  · rw [hget_set_ne _ (by omega)]; exact S.r_ac
  · rw [hget_set_ne _ (by omega)]; exact S.r_ky
  · rw [hget_set_ne _ (by omega)]; exact S.r_wt
  · rw [hget_set_ne _ (by omega)]; exact S.r_mn
  · rw [hget_set_ne _ (by omega)]; exact S.r_ts
  · rw [hget_set_ne _ (by omega)]; exact S.r_tz
  · rw [hget_set_ne _ (by omega)]; exact S.r_tp
  · intro r hr; rw [hget_set_ne _ (by omega)]; exact S.r_row hr
  · rw [hget_set_ne _ (by omega)]; exact S.r_mv
theorem TwS.w_ac {x' : Nat → Int32} (S : TwS K h0 h A g sv kp go tx ac ky wt mn ts tz tp mv i0 i1 i2 i3 i4 i5) : TwS K h0 (hset h (A + 6) (jA K 0 120 x')) A g sv kp go tx x' ky wt mn ts tz tp mv i0 i1 i2 i3 i4 i5 := by
  refine ⟨⟨?_, ?_, ?_, ?_, ?_, ?_, ?_, ?_, ?_, ?_, ?_, ?_, ?_, ?_, ?_⟩, S.2.tr (TwF.set (by omega) S.r_ac rfl)⟩
  · rw [hget_set_ne _ (by omega)]; exact S.o
  · rw [hget_set_ne _ (by omega)]; exact S.r_g
  · rw [hget_set_ne _ (by omega)]; exact S.r_sv
  · rw [hget_set_ne _ (by omega)]; exact S.r_kp
  · rw [hget_set_ne _ (by omega)]; exact S.r_go
  · rw [hget_set_ne _ (by omega)]; exact S.r_tx
  · exact hget_set_same _ S.r_ac
  · rw [hget_set_ne _ (by omega)]; exact S.r_ky
  · rw [hget_set_ne _ (by omega)]; exact S.r_wt
  · rw [hget_set_ne _ (by omega)]; exact S.r_mn
  · rw [hget_set_ne _ (by omega)]; exact S.r_ts
  · rw [hget_set_ne _ (by omega)]; exact S.r_tz
  · rw [hget_set_ne _ (by omega)]; exact S.r_tp
  · intro r hr; rw [hget_set_ne _ (by omega)]; exact S.r_row hr
  · rw [hget_set_ne _ (by omega)]; exact S.r_mv
theorem TwS.w_ky {x' : Nat → Int32} (S : TwS K h0 h A g sv kp go tx ac ky wt mn ts tz tp mv i0 i1 i2 i3 i4 i5) : TwS K h0 (hset h (A + 7) (jA K 0 120 x')) A g sv kp go tx ac x' wt mn ts tz tp mv i0 i1 i2 i3 i4 i5 := by
  refine ⟨⟨?_, ?_, ?_, ?_, ?_, ?_, ?_, ?_, ?_, ?_, ?_, ?_, ?_, ?_, ?_⟩, S.2.tr (TwF.set (by omega) S.r_ky rfl)⟩
  · rw [hget_set_ne _ (by omega)]; exact S.o
  · rw [hget_set_ne _ (by omega)]; exact S.r_g
  · rw [hget_set_ne _ (by omega)]; exact S.r_sv
  · rw [hget_set_ne _ (by omega)]; exact S.r_kp
  · rw [hget_set_ne _ (by omega)]; exact S.r_go
  · rw [hget_set_ne _ (by omega)]; exact S.r_tx
  · rw [hget_set_ne _ (by omega)]; exact S.r_ac
  · exact hget_set_same _ S.r_ky
  · rw [hget_set_ne _ (by omega)]; exact S.r_wt
  · rw [hget_set_ne _ (by omega)]; exact S.r_mn
  · rw [hget_set_ne _ (by omega)]; exact S.r_ts
  · rw [hget_set_ne _ (by omega)]; exact S.r_tz
  · rw [hget_set_ne _ (by omega)]; exact S.r_tp
  · intro r hr; rw [hget_set_ne _ (by omega)]; exact S.r_row hr
  · rw [hget_set_ne _ (by omega)]; exact S.r_mv
theorem TwS.w_wt {x' : Nat → Int32} (S : TwS K h0 h A g sv kp go tx ac ky wt mn ts tz tp mv i0 i1 i2 i3 i4 i5) : TwS K h0 (hset h (A + 8) (jA K 0 120 x')) A g sv kp go tx ac ky x' mn ts tz tp mv i0 i1 i2 i3 i4 i5 := by
  refine ⟨⟨?_, ?_, ?_, ?_, ?_, ?_, ?_, ?_, ?_, ?_, ?_, ?_, ?_, ?_, ?_⟩, S.2.tr (TwF.set (by omega) S.r_wt rfl)⟩
  · rw [hget_set_ne _ (by omega)]; exact S.o
  · rw [hget_set_ne _ (by omega)]; exact S.r_g
  · rw [hget_set_ne _ (by omega)]; exact S.r_sv
  · rw [hget_set_ne _ (by omega)]; exact S.r_kp
  · rw [hget_set_ne _ (by omega)]; exact S.r_go
  · rw [hget_set_ne _ (by omega)]; exact S.r_tx
  · rw [hget_set_ne _ (by omega)]; exact S.r_ac
  · rw [hget_set_ne _ (by omega)]; exact S.r_ky
  · exact hget_set_same _ S.r_wt
  · rw [hget_set_ne _ (by omega)]; exact S.r_mn
  · rw [hget_set_ne _ (by omega)]; exact S.r_ts
  · rw [hget_set_ne _ (by omega)]; exact S.r_tz
  · rw [hget_set_ne _ (by omega)]; exact S.r_tp
  · intro r hr; rw [hget_set_ne _ (by omega)]; exact S.r_row hr
  · rw [hget_set_ne _ (by omega)]; exact S.r_mv
theorem TwS.w_mn {x' : Nat → Int32} (S : TwS K h0 h A g sv kp go tx ac ky wt mn ts tz tp mv i0 i1 i2 i3 i4 i5) : TwS K h0 (hset h (A + 9) (jA K 0 6 x')) A g sv kp go tx ac ky wt x' ts tz tp mv i0 i1 i2 i3 i4 i5 := by
  refine ⟨⟨?_, ?_, ?_, ?_, ?_, ?_, ?_, ?_, ?_, ?_, ?_, ?_, ?_, ?_, ?_⟩, S.2.tr (TwF.set (by omega) S.r_mn rfl)⟩
  · rw [hget_set_ne _ (by omega)]; exact S.o
  · rw [hget_set_ne _ (by omega)]; exact S.r_g
  · rw [hget_set_ne _ (by omega)]; exact S.r_sv
  · rw [hget_set_ne _ (by omega)]; exact S.r_kp
  · rw [hget_set_ne _ (by omega)]; exact S.r_go
  · rw [hget_set_ne _ (by omega)]; exact S.r_tx
  · rw [hget_set_ne _ (by omega)]; exact S.r_ac
  · rw [hget_set_ne _ (by omega)]; exact S.r_ky
  · rw [hget_set_ne _ (by omega)]; exact S.r_wt
  · exact hget_set_same _ S.r_mn
  · rw [hget_set_ne _ (by omega)]; exact S.r_ts
  · rw [hget_set_ne _ (by omega)]; exact S.r_tz
  · rw [hget_set_ne _ (by omega)]; exact S.r_tp
  · intro r hr; rw [hget_set_ne _ (by omega)]; exact S.r_row hr
  · rw [hget_set_ne _ (by omega)]; exact S.r_mv
theorem TwS.w_ts {x' : Nat → Int32} (S : TwS K h0 h A g sv kp go tx ac ky wt mn ts tz tp mv i0 i1 i2 i3 i4 i5) : TwS K h0 (hset h (A + 10) (jA K 0 6 x')) A g sv kp go tx ac ky wt mn x' tz tp mv i0 i1 i2 i3 i4 i5 := by
  refine ⟨⟨?_, ?_, ?_, ?_, ?_, ?_, ?_, ?_, ?_, ?_, ?_, ?_, ?_, ?_, ?_⟩, S.2.tr (TwF.set (by omega) S.r_ts rfl)⟩
  · rw [hget_set_ne _ (by omega)]; exact S.o
  · rw [hget_set_ne _ (by omega)]; exact S.r_g
  · rw [hget_set_ne _ (by omega)]; exact S.r_sv
  · rw [hget_set_ne _ (by omega)]; exact S.r_kp
  · rw [hget_set_ne _ (by omega)]; exact S.r_go
  · rw [hget_set_ne _ (by omega)]; exact S.r_tx
  · rw [hget_set_ne _ (by omega)]; exact S.r_ac
  · rw [hget_set_ne _ (by omega)]; exact S.r_ky
  · rw [hget_set_ne _ (by omega)]; exact S.r_wt
  · rw [hget_set_ne _ (by omega)]; exact S.r_mn
  · exact hget_set_same _ S.r_ts
  · rw [hget_set_ne _ (by omega)]; exact S.r_tz
  · rw [hget_set_ne _ (by omega)]; exact S.r_tp
  · intro r hr; rw [hget_set_ne _ (by omega)]; exact S.r_row hr
  · rw [hget_set_ne _ (by omega)]; exact S.r_mv
theorem TwS.w_tz {x' : Nat → Int32} (S : TwS K h0 h A g sv kp go tx ac ky wt mn ts tz tp mv i0 i1 i2 i3 i4 i5) : TwS K h0 (hset h (A + 11) (jA K 0 6 x')) A g sv kp go tx ac ky wt mn ts x' tp mv i0 i1 i2 i3 i4 i5 := by
  refine ⟨⟨?_, ?_, ?_, ?_, ?_, ?_, ?_, ?_, ?_, ?_, ?_, ?_, ?_, ?_, ?_⟩, S.2.tr (TwF.set (by omega) S.r_tz rfl)⟩
  · rw [hget_set_ne _ (by omega)]; exact S.o
  · rw [hget_set_ne _ (by omega)]; exact S.r_g
  · rw [hget_set_ne _ (by omega)]; exact S.r_sv
  · rw [hget_set_ne _ (by omega)]; exact S.r_kp
  · rw [hget_set_ne _ (by omega)]; exact S.r_go
  · rw [hget_set_ne _ (by omega)]; exact S.r_tx
  · rw [hget_set_ne _ (by omega)]; exact S.r_ac
  · rw [hget_set_ne _ (by omega)]; exact S.r_ky
  · rw [hget_set_ne _ (by omega)]; exact S.r_wt
  · rw [hget_set_ne _ (by omega)]; exact S.r_mn
  · rw [hget_set_ne _ (by omega)]; exact S.r_ts
  · exact hget_set_same _ S.r_tz
  · rw [hget_set_ne _ (by omega)]; exact S.r_tp
  · intro r hr; rw [hget_set_ne _ (by omega)]; exact S.r_row hr
  · rw [hget_set_ne _ (by omega)]; exact S.r_mv
theorem TwS.w_mv {x' : Nat → Int64} (S : TwS K h0 h A g sv kp go tx ac ky wt mn ts tz tp mv i0 i1 i2 i3 i4 i5) : TwS K h0 (hset h (A + 19) (jAL K 60 x')) A g sv kp go tx ac ky wt mn ts tz tp x' i0 i1 i2 i3 i4 i5 := by
  refine ⟨⟨?_, ?_, ?_, ?_, ?_, ?_, ?_, ?_, ?_, ?_, ?_, ?_, ?_, ?_, ?_⟩, S.2.tr (TwF.set (by omega) S.r_mv rfl)⟩
  · rw [hget_set_ne _ (by omega)]; exact S.o
  · rw [hget_set_ne _ (by omega)]; exact S.r_g
  · rw [hget_set_ne _ (by omega)]; exact S.r_sv
  · rw [hget_set_ne _ (by omega)]; exact S.r_kp
  · rw [hget_set_ne _ (by omega)]; exact S.r_go
  · rw [hget_set_ne _ (by omega)]; exact S.r_tx
  · rw [hget_set_ne _ (by omega)]; exact S.r_ac
  · rw [hget_set_ne _ (by omega)]; exact S.r_ky
  · rw [hget_set_ne _ (by omega)]; exact S.r_wt
  · rw [hget_set_ne _ (by omega)]; exact S.r_mn
  · rw [hget_set_ne _ (by omega)]; exact S.r_ts
  · rw [hget_set_ne _ (by omega)]; exact S.r_tz
  · rw [hget_set_ne _ (by omega)]; exact S.r_tp
  · intro r hr; rw [hget_set_ne _ (by omega)]; exact S.r_row hr
  · exact hget_set_same _ S.r_mv
theorem TwS.w_o {j0 j1 j2 j3 j4 j5 : Int32} (S : TwS K h0 h A g sv kp go tx ac ky wt mn ts tz tp mv i0 i1 i2 i3 i4 i5) : TwS K h0 (hset h A (jO 5 (twO A j0 j1 j2 j3 j4 j5))) A g sv kp go tx ac ky wt mn ts tz tp mv j0 j1 j2 j3 j4 j5 := by
  refine ⟨⟨?_, ?_, ?_, ?_, ?_, ?_, ?_, ?_, ?_, ?_, ?_, ?_, ?_, ?_, ?_⟩, S.2.tr (TwF.set (k := 0) (by omega) S.o rfl)⟩
  · exact hget_set_same _ S.o
  · rw [hget_set_ne _ (by omega)]; exact S.r_g
  · rw [hget_set_ne _ (by omega)]; exact S.r_sv
  · rw [hget_set_ne _ (by omega)]; exact S.r_kp
  · rw [hget_set_ne _ (by omega)]; exact S.r_go
  · rw [hget_set_ne _ (by omega)]; exact S.r_tx
  · rw [hget_set_ne _ (by omega)]; exact S.r_ac
  · rw [hget_set_ne _ (by omega)]; exact S.r_ky
  · rw [hget_set_ne _ (by omega)]; exact S.r_wt
  · rw [hget_set_ne _ (by omega)]; exact S.r_mn
  · rw [hget_set_ne _ (by omega)]; exact S.r_ts
  · rw [hget_set_ne _ (by omega)]; exact S.r_tz
  · rw [hget_set_ne _ (by omega)]; exact S.r_tp
  · intro r hr; rw [hget_set_ne _ (by omega)]; exact S.r_row hr
  · rw [hget_set_ne _ (by omega)]; exact S.r_mv
theorem TwS.w_row {r : Nat} {x' : Nat → Int64} (hr : r < 6) (S : TwS K h0 h A g sv kp go tx ac ky wt mn ts tz tp mv i0 i1 i2 i3 i4 i5) : TwS K h0 (hset h (A + 13 + r) (jAL K 60 x')) A g sv kp go tx ac ky wt mn ts tz (va_up tp r x') mv i0 i1 i2 i3 i4 i5 := by
  have e13 : A + 13 + r = A + (13 + r) := by omega
  refine ⟨⟨?_, ?_, ?_, ?_, ?_, ?_, ?_, ?_, ?_, ?_, ?_, ?_, ?_, ?_, ?_⟩, S.2.tr (by rw [e13]; exact TwF.set (e0 := jAL K 60 (tp r)) (by omega) (by rw [← e13]; exact S.r_row hr) rfl)⟩
  · rw [hget_set_ne _ (by omega)]; exact S.o
  · rw [hget_set_ne _ (by omega)]; exact S.r_g
  · rw [hget_set_ne _ (by omega)]; exact S.r_sv
  · rw [hget_set_ne _ (by omega)]; exact S.r_kp
  · rw [hget_set_ne _ (by omega)]; exact S.r_go
  · rw [hget_set_ne _ (by omega)]; exact S.r_tx
  · rw [hget_set_ne _ (by omega)]; exact S.r_ac
  · rw [hget_set_ne _ (by omega)]; exact S.r_ky
  · rw [hget_set_ne _ (by omega)]; exact S.r_wt
  · rw [hget_set_ne _ (by omega)]; exact S.r_mn
  · rw [hget_set_ne _ (by omega)]; exact S.r_ts
  · rw [hget_set_ne _ (by omega)]; exact S.r_tz
  · rw [hget_set_ne _ (by omega)]; exact S.r_tp
  · intro q hq
    by_cases e : q = r
    · subst e; rw [va_up_self]; exact hget_set_same _ (S.r_row hq)
    · rw [va_up_ne _ _ e, hget_set_ne _ (by omega)]; exact S.r_row hq
  · rw [hget_set_ne _ (by omega)]; exact S.r_mv
end
section JR
variable {M : JM} {K : JK} {l0 : Launch} {cc : ByteArray} {own : String} {nL : Nat} {ret : Option FieldType} {nm : String} {hh : List (Nat × Nat × Nat × Nat)} {lv : Nat} {h0 : JIH} {QR : JQR} {QX : JQX} {h hs : JIH} {pc : Nat} {ls : List (Option Value)} {st : List Value}
variable {A : Nat} {g sv kp go tx ac ky wt mn ts tz : Nat → Int32} {tp : Nat → Nat → Int64} {mv : Nat → Int64} {i0 i1 i2 i3 i4 i5 : Int32}
theorem J.tw_g {j : Nat} {i : Int32} {x : Int32} (X : JX M K l0 cc own nL ret nm hh lv h0 QR QX) (hd : decode cc pc = .ok (.iastore, 1)) (S : TwS K hs h A g sv kp go tx ac ky wt mn ts tz tp mv i0 i1 i2 i3 i4 i5) (hi : i = nI j) (hj : j < 3253) (k : ∀ h' : JIH, TwS K hs h' A (upd g j x) sv kp go tx ac ky wt mn ts tz tp mv i0 i1 i2 i3 i4 i5 → J M h' (pc + 1) ls st) : J M h pc ls (.int x :: .int i :: .ref (A + 1) :: st) := J.iast X hd S.r_g hi hj (k _ S.w_g)
theorem J.tw_sv {j : Nat} {i : Int32} {x : Int32} (X : JX M K l0 cc own nL ret nm hh lv h0 QR QX) (hd : decode cc pc = .ok (.iastore, 1)) (S : TwS K hs h A g sv kp go tx ac ky wt mn ts tz tp mv i0 i1 i2 i3 i4 i5) (hi : i = nI j) (hj : j < 3253) (k : ∀ h' : JIH, TwS K hs h' A g (upd sv j x) kp go tx ac ky wt mn ts tz tp mv i0 i1 i2 i3 i4 i5 → J M h' (pc + 1) ls st) : J M h pc ls (.int x :: .int i :: .ref (A + 2) :: st) := J.iast X hd S.r_sv hi hj (k _ S.w_sv)
theorem J.tw_kp {j : Nat} {i : Int32} {x : Int32} (X : JX M K l0 cc own nL ret nm hh lv h0 QR QX) (hd : decode cc pc = .ok (.iastore, 1)) (S : TwS K hs h A g sv kp go tx ac ky wt mn ts tz tp mv i0 i1 i2 i3 i4 i5) (hi : i = nI j) (hj : j < 3253) (k : ∀ h' : JIH, TwS K hs h' A g sv (upd kp j x) go tx ac ky wt mn ts tz tp mv i0 i1 i2 i3 i4 i5 → J M h' (pc + 1) ls st) : J M h pc ls (.int x :: .int i :: .ref (A + 3) :: st) := J.iast X hd S.r_kp hi hj (k _ S.w_kp)
theorem J.tw_go {j : Nat} {i : Int32} {x : Int32} (X : JX M K l0 cc own nL ret nm hh lv h0 QR QX) (hd : decode cc pc = .ok (.iastore, 1)) (S : TwS K hs h A g sv kp go tx ac ky wt mn ts tz tp mv i0 i1 i2 i3 i4 i5) (hi : i = nI j) (hj : j < 400) (k : ∀ h' : JIH, TwS K hs h' A g sv kp (upd go j x) tx ac ky wt mn ts tz tp mv i0 i1 i2 i3 i4 i5 → J M h' (pc + 1) ls st) : J M h pc ls (.int x :: .int i :: .ref (A + 4) :: st) := J.iast X hd S.r_go hi hj (k _ S.w_go)
theorem J.tw_tx {j : Nat} {i : Int32} {x : Int32} (X : JX M K l0 cc own nL ret nm hh lv h0 QR QX) (hd : decode cc pc = .ok (.iastore, 1)) (S : TwS K hs h A g sv kp go tx ac ky wt mn ts tz tp mv i0 i1 i2 i3 i4 i5) (hi : i = nI j) (hj : j < 100) (k : ∀ h' : JIH, TwS K hs h' A g sv kp go (upd tx j x) ac ky wt mn ts tz tp mv i0 i1 i2 i3 i4 i5 → J M h' (pc + 1) ls st) : J M h pc ls (.int x :: .int i :: .ref (A + 5) :: st) := J.iast X hd S.r_tx hi hj (k _ S.w_tx)
theorem J.tw_ac {j : Nat} {i : Int32} {x : Int32} (X : JX M K l0 cc own nL ret nm hh lv h0 QR QX) (hd : decode cc pc = .ok (.iastore, 1)) (S : TwS K hs h A g sv kp go tx ac ky wt mn ts tz tp mv i0 i1 i2 i3 i4 i5) (hi : i = nI j) (hj : j < 120) (k : ∀ h' : JIH, TwS K hs h' A g sv kp go tx (upd ac j x) ky wt mn ts tz tp mv i0 i1 i2 i3 i4 i5 → J M h' (pc + 1) ls st) : J M h pc ls (.int x :: .int i :: .ref (A + 6) :: st) := J.iast X hd S.r_ac hi hj (k _ S.w_ac)
theorem J.tw_ky {j : Nat} {i : Int32} {x : Int32} (X : JX M K l0 cc own nL ret nm hh lv h0 QR QX) (hd : decode cc pc = .ok (.iastore, 1)) (S : TwS K hs h A g sv kp go tx ac ky wt mn ts tz tp mv i0 i1 i2 i3 i4 i5) (hi : i = nI j) (hj : j < 120) (k : ∀ h' : JIH, TwS K hs h' A g sv kp go tx ac (upd ky j x) wt mn ts tz tp mv i0 i1 i2 i3 i4 i5 → J M h' (pc + 1) ls st) : J M h pc ls (.int x :: .int i :: .ref (A + 7) :: st) := J.iast X hd S.r_ky hi hj (k _ S.w_ky)
theorem J.tw_wt {j : Nat} {i : Int32} {x : Int32} (X : JX M K l0 cc own nL ret nm hh lv h0 QR QX) (hd : decode cc pc = .ok (.iastore, 1)) (S : TwS K hs h A g sv kp go tx ac ky wt mn ts tz tp mv i0 i1 i2 i3 i4 i5) (hi : i = nI j) (hj : j < 120) (k : ∀ h' : JIH, TwS K hs h' A g sv kp go tx ac ky (upd wt j x) mn ts tz tp mv i0 i1 i2 i3 i4 i5 → J M h' (pc + 1) ls st) : J M h pc ls (.int x :: .int i :: .ref (A + 8) :: st) := J.iast X hd S.r_wt hi hj (k _ S.w_wt)
theorem J.tw_mn {j : Nat} {i : Int32} {x : Int32} (X : JX M K l0 cc own nL ret nm hh lv h0 QR QX) (hd : decode cc pc = .ok (.iastore, 1)) (S : TwS K hs h A g sv kp go tx ac ky wt mn ts tz tp mv i0 i1 i2 i3 i4 i5) (hi : i = nI j) (hj : j < 6) (k : ∀ h' : JIH, TwS K hs h' A g sv kp go tx ac ky wt (upd mn j x) ts tz tp mv i0 i1 i2 i3 i4 i5 → J M h' (pc + 1) ls st) : J M h pc ls (.int x :: .int i :: .ref (A + 9) :: st) := J.iast X hd S.r_mn hi hj (k _ S.w_mn)
theorem J.tw_ts {j : Nat} {i : Int32} {x : Int32} (X : JX M K l0 cc own nL ret nm hh lv h0 QR QX) (hd : decode cc pc = .ok (.iastore, 1)) (S : TwS K hs h A g sv kp go tx ac ky wt mn ts tz tp mv i0 i1 i2 i3 i4 i5) (hi : i = nI j) (hj : j < 6) (k : ∀ h' : JIH, TwS K hs h' A g sv kp go tx ac ky wt mn (upd ts j x) tz tp mv i0 i1 i2 i3 i4 i5 → J M h' (pc + 1) ls st) : J M h pc ls (.int x :: .int i :: .ref (A + 10) :: st) := J.iast X hd S.r_ts hi hj (k _ S.w_ts)
theorem J.tw_tz {j : Nat} {i : Int32} {x : Int32} (X : JX M K l0 cc own nL ret nm hh lv h0 QR QX) (hd : decode cc pc = .ok (.iastore, 1)) (S : TwS K hs h A g sv kp go tx ac ky wt mn ts tz tp mv i0 i1 i2 i3 i4 i5) (hi : i = nI j) (hj : j < 6) (k : ∀ h' : JIH, TwS K hs h' A g sv kp go tx ac ky wt mn ts (upd tz j x) tp mv i0 i1 i2 i3 i4 i5 → J M h' (pc + 1) ls st) : J M h pc ls (.int x :: .int i :: .ref (A + 11) :: st) := J.iast X hd S.r_tz hi hj (k _ S.w_tz)
theorem J.tw_mv {j : Nat} {i : Int32} {x : Int64} (X : JX M K l0 cc own nL ret nm hh lv h0 QR QX) (hd : decode cc pc = .ok (.lastore, 1)) (S : TwS K hs h A g sv kp go tx ac ky wt mn ts tz tp mv i0 i1 i2 i3 i4 i5) (hi : i = nI j) (hj : j < 60) (k : ∀ h' : JIH, TwS K hs h' A g sv kp go tx ac ky wt mn ts tz tp (vp_updL mv j x) i0 i1 i2 i3 i4 i5 → J M h' (pc + 1) ls st) : J M h pc ls (.long x :: .int i :: .ref (A + 19) :: st) := J.last X hd S.r_mv hi hj (k _ S.w_mv)
theorem J.tw_row {j r : Nat} {i : Int32} {x : Int64} (X : JX M K l0 cc own nL ret nm hh lv h0 QR QX) (hd : decode cc pc = .ok (.lastore, 1)) (S : TwS K hs h A g sv kp go tx ac ky wt mn ts tz tp mv i0 i1 i2 i3 i4 i5) (hr : r < 6) (hi : i = nI j) (hj : j < 60) (k : ∀ h' : JIH, TwS K hs h' A g sv kp go tx ac ky wt mn ts tz (va_up tp r (vp_updL (tp r) j x)) mv i0 i1 i2 i3 i4 i5 → J M h' (pc + 1) ls st) : J M h pc ls (.long x :: .int i :: .ref (A + 13 + r) :: st) := J.last X hd (S.r_row hr) hi hj (k _ (S.w_row hr))
theorem J.tw_i0 {idx : Nat} {v : Int32} (X : JX M K l0 cc own nL ret nm hh lv h0 QR QX) (hd : decode cc pc = .ok (.putfield idx, 3)) (pl : jPL own nm idx 5 3 .boolean) (S : TwS K hs h A g sv kp go tx ac ky wt mn ts tz tp mv i0 i1 i2 i3 i4 i5) (hn : narrow .boolean (.int v) = .int v) (hf : fits .boolean (.int v) = true) (k : ∀ h' : JIH, TwS K hs h' A g sv kp go tx ac ky wt mn ts tz tp mv v i1 i2 i3 i4 i5 → J M h' (pc + 3) ls st) : J M h pc ls (.int v :: .ref A :: st) := J.putf X hd pl S.o (by show 3 < 19; decide) hn hf (k _ S.w_o)
theorem J.tw_i1 {idx : Nat} {v : Int32} (X : JX M K l0 cc own nL ret nm hh lv h0 QR QX) (hd : decode cc pc = .ok (.putfield idx, 3)) (pl : jPL own nm idx 5 5 .int) (S : TwS K hs h A g sv kp go tx ac ky wt mn ts tz tp mv i0 i1 i2 i3 i4 i5) (hn : narrow .int (.int v) = .int v) (hf : fits .int (.int v) = true) (k : ∀ h' : JIH, TwS K hs h' A g sv kp go tx ac ky wt mn ts tz tp mv i0 v i2 i3 i4 i5 → J M h' (pc + 3) ls st) : J M h pc ls (.int v :: .ref A :: st) := J.putf X hd pl S.o (by show 5 < 19; decide) hn hf (k _ S.w_o)
theorem J.tw_i2 {idx : Nat} {v : Int32} (X : JX M K l0 cc own nL ret nm hh lv h0 QR QX) (hd : decode cc pc = .ok (.putfield idx, 3)) (pl : jPL own nm idx 5 7 .int) (S : TwS K hs h A g sv kp go tx ac ky wt mn ts tz tp mv i0 i1 i2 i3 i4 i5) (hn : narrow .int (.int v) = .int v) (hf : fits .int (.int v) = true) (k : ∀ h' : JIH, TwS K hs h' A g sv kp go tx ac ky wt mn ts tz tp mv i0 i1 v i3 i4 i5 → J M h' (pc + 3) ls st) : J M h pc ls (.int v :: .ref A :: st) := J.putf X hd pl S.o (by show 7 < 19; decide) hn hf (k _ S.w_o)
theorem J.tw_i3 {idx : Nat} {v : Int32} (X : JX M K l0 cc own nL ret nm hh lv h0 QR QX) (hd : decode cc pc = .ok (.putfield idx, 3)) (pl : jPL own nm idx 5 12 .int) (S : TwS K hs h A g sv kp go tx ac ky wt mn ts tz tp mv i0 i1 i2 i3 i4 i5) (hn : narrow .int (.int v) = .int v) (hf : fits .int (.int v) = true) (k : ∀ h' : JIH, TwS K hs h' A g sv kp go tx ac ky wt mn ts tz tp mv i0 i1 i2 v i4 i5 → J M h' (pc + 3) ls st) : J M h pc ls (.int v :: .ref A :: st) := J.putf X hd pl S.o (by show 12 < 19; decide) hn hf (k _ S.w_o)
theorem J.tw_i4 {idx : Nat} {v : Int32} (X : JX M K l0 cc own nL ret nm hh lv h0 QR QX) (hd : decode cc pc = .ok (.putfield idx, 3)) (pl : jPL own nm idx 5 17 .int) (S : TwS K hs h A g sv kp go tx ac ky wt mn ts tz tp mv i0 i1 i2 i3 i4 i5) (hn : narrow .int (.int v) = .int v) (hf : fits .int (.int v) = true) (k : ∀ h' : JIH, TwS K hs h' A g sv kp go tx ac ky wt mn ts tz tp mv i0 i1 i2 i3 v i5 → J M h' (pc + 3) ls st) : J M h pc ls (.int v :: .ref A :: st) := J.putf X hd pl S.o (by show 17 < 19; decide) hn hf (k _ S.w_o)
theorem J.tw_i5 {idx : Nat} {v : Int32} (X : JX M K l0 cc own nL ret nm hh lv h0 QR QX) (hd : decode cc pc = .ok (.putfield idx, 3)) (pl : jPL own nm idx 5 18 .int) (S : TwS K hs h A g sv kp go tx ac ky wt mn ts tz tp mv i0 i1 i2 i3 i4 i5) (hn : narrow .int (.int v) = .int v) (hf : fits .int (.int v) = true) (k : ∀ h' : JIH, TwS K hs h' A g sv kp go tx ac ky wt mn ts tz tp mv i0 i1 i2 i3 i4 v → J M h' (pc + 3) ls st) : J M h pc ls (.int v :: .ref A :: st) := J.putf X hd pl S.o (by show 18 < 19; decide) hn hf (k _ S.w_o)
end JR
