/-! a Sketch's cells, at B .. B+10 -/
def skO (B : Nat) (s0 s1 s2 s3 s4 s5 s6 s7 s8 : Int32) : List Value := [.ref (B + 1), .ref (B + 2), .ref (B + 3), .ref (B + 4), .ref (B + 5), .ref (B + 6), .ref (B + 7), .ref (B + 8), .ref (B + 9), .ref (B + 10), .int s0, .int s1, .int s2, .int s3, .int s4, .int s5, .int s6, .int s7, .int s8]
def SkR (K : JK) (h : JIH) (B : Nat) (wh : Nat → Nat) (nx : Nat → Option Nat) (ah : Nat → Option Nat) (wt : Nat → Int32) (ht : Nat → Int32) (ch : Nat → Int32) (pn : Nat → Nat) (fi : Nat → Option Nat) (la : Nat → Option Nat) (to : Nat → Int32) (s0 s1 s2 s3 s4 s5 s6 s7 s8 : Int32) : Prop := hget h B = some (jO 3 (skO B s0 s1 s2 s3 s4 s5 s6 s7 s8)) ∧ hget h (B + 1) = some (jA K 0 400 (fun i => nI (wh i))) ∧ hget h (B + 2) = some (jA K 0 400 (fun i => bI (nx i))) ∧ hget h (B + 3) = some (jA K 0 400 (fun i => bI (ah i))) ∧ hget h (B + 4) = some (jA K 0 400 wt) ∧ hget h (B + 5) = some (jA K 0 400 ht) ∧ hget h (B + 6) = some (jA K 0 400 ch) ∧ hget h (B + 7) = some (jA K 4 400 (fun i => nI (pn i))) ∧ hget h (B + 8) = some (jA K 0 5 (fun i => bI (fi i))) ∧ hget h (B + 9) = some (jA K 0 5 (fun i => bI (la i))) ∧ hget h (B + 10) = some (jA K 0 5 to)
def SkF (h0 h : JIH) (B : Nat) : Prop := h.1 = h0.1 ∧ h.2.length = h0.2.length ∧ hsl h = hsl h0 ∧ (∀ a, htag h a = htag h0 a) ∧ ∀ a, (a < B ∨ B + 11 ≤ a) → hget h a = hget h0 a
theorem SkF.rf (h : JIH) (B : Nat) : SkF h h B := ⟨rfl, rfl, rfl, fun _ => rfl, fun _ _ => rfl⟩
theorem SkF.tr {a b c : JIH} {B : Nat} (f : SkF a b B) (g : SkF b c B) : SkF a c B := ⟨g.1.trans f.1, g.2.1.trans f.2.1, g.2.2.1.trans f.2.2.1, fun x => (g.2.2.2.1 x).trans (f.2.2.2.1 x), fun x hx => (g.2.2.2.2 x hx).trans (f.2.2.2.2 x hx)⟩
theorem SkF.set {h : JIH} {B k : Nat} {e0 e : va_E} (hk : k < 11) (hp : hget h (B + k) = some e0) (hz : esz e = esz e0) : SkF h (hset h (B + k) e) B := ⟨hset_1 _ _ _, hset_len _ _ _, hsl_set hp hz, htag_set _ _ _, fun a ha => hget_set_ne e (by omega)⟩
def SkS (K : JK) (h0 h : JIH) (B : Nat) (wh : Nat → Nat) (nx : Nat → Option Nat) (ah : Nat → Option Nat) (wt : Nat → Int32) (ht : Nat → Int32) (ch : Nat → Int32) (pn : Nat → Nat) (fi : Nat → Option Nat) (la : Nat → Option Nat) (to : Nat → Int32) (s0 s1 s2 s3 s4 s5 s6 s7 s8 : Int32) : Prop := SkR K h B wh nx ah wt ht ch pn fi la to s0 s1 s2 s3 s4 s5 s6 s7 s8 ∧ SkF h0 h B
theorem upd_n (f : Nat → Nat) (k v : Nat) : upd (fun i => nI (f i)) k (nI v) = fun i => nI (va_up f k v i) := by
  funext i; rw [upd_at]; unfold va_up; split <;> rfl
theorem upd_o (f : Nat → Option Nat) (k : Nat) (v : Option Nat) : upd (fun i => bI (f i)) k (bI v) = fun i => bI (va_up f k v i) := by
  funext i; rw [upd_at]; unfold va_up; split <;> rfl
section
variable {K : JK} {h0 h h2 : JIH} {B : Nat} {wh : Nat → Nat} {nx : Nat → Option Nat} {ah : Nat → Option Nat} {wt : Nat → Int32} {ht : Nat → Int32} {ch : Nat → Int32} {pn : Nat → Nat} {fi : Nat → Option Nat} {la : Nat → Option Nat} {to : Nat → Int32} {s0 s1 s2 s3 s4 s5 s6 s7 s8 : Int32}
theorem SkR.S (T : SkR K h B wh nx ah wt ht ch pn fi la to s0 s1 s2 s3 s4 s5 s6 s7 s8) : SkS K h h B wh nx ah wt ht ch pn fi la to s0 s1 s2 s3 s4 s5 s6 s7 s8 := ⟨T, SkF.rf h B⟩
theorem SkS.tr (f : SkS K h0 h B wh nx ah wt ht ch pn fi la to s0 s1 s2 s3 s4 s5 s6 s7 s8) {wh' : Nat → Nat} {nx' : Nat → Option Nat} {ah' : Nat → Option Nat} {wt' : Nat → Int32} {ht' : Nat → Int32} {ch' : Nat → Int32} {pn' : Nat → Nat} {fi' : Nat → Option Nat} {la' : Nat → Option Nat} {to' : Nat → Int32} {s0' s1' s2' s3' s4' s5' s6' s7' s8' : Int32} (g : SkS K h h2 B wh' nx' ah' wt' ht' ch' pn' fi' la' to' s0' s1' s2' s3' s4' s5' s6' s7' s8') : SkS K h0 h2 B wh' nx' ah' wt' ht' ch' pn' fi' la' to' s0' s1' s2' s3' s4' s5' s6' s7' s8' := ⟨g.1, f.2.tr g.2⟩
theorem SkS.o (S : SkS K h0 h B wh nx ah wt ht ch pn fi la to s0 s1 s2 s3 s4 s5 s6 s7 s8) : hget h B = some (jO 3 (skO B s0 s1 s2 s3 s4 s5 s6 s7 s8)) := S.1.1
theorem SkS.r_wh (S : SkS K h0 h B wh nx ah wt ht ch pn fi la to s0 s1 s2 s3 s4 s5 s6 s7 s8) : hget h (B + 1) = some (jA K 0 400 (fun i => nI (wh i))) := S.1.2.1
theorem SkS.r_nx (S : SkS K h0 h B wh nx ah wt ht ch pn fi la to s0 s1 s2 s3 s4 s5 s6 s7 s8) : hget h (B + 2) = some (jA K 0 400 (fun i => bI (nx i))) := S.1.2.2.1
theorem SkS.r_ah (S : SkS K h0 h B wh nx ah wt ht ch pn fi la to s0 s1 s2 s3 s4 s5 s6 s7 s8) : hget h (B + 3) = some (jA K 0 400 (fun i => bI (ah i))) := S.1.2.2.2.1
theorem SkS.r_wt (S : SkS K h0 h B wh nx ah wt ht ch pn fi la to s0 s1 s2 s3 s4 s5 s6 s7 s8) : hget h (B + 4) = some (jA K 0 400 wt) := S.1.2.2.2.2.1
theorem SkS.r_ht (S : SkS K h0 h B wh nx ah wt ht ch pn fi la to s0 s1 s2 s3 s4 s5 s6 s7 s8) : hget h (B + 5) = some (jA K 0 400 ht) := S.1.2.2.2.2.2.1
theorem SkS.r_ch (S : SkS K h0 h B wh nx ah wt ht ch pn fi la to s0 s1 s2 s3 s4 s5 s6 s7 s8) : hget h (B + 6) = some (jA K 0 400 ch) := S.1.2.2.2.2.2.2.1
theorem SkS.r_pn (S : SkS K h0 h B wh nx ah wt ht ch pn fi la to s0 s1 s2 s3 s4 s5 s6 s7 s8) : hget h (B + 7) = some (jA K 4 400 (fun i => nI (pn i))) := S.1.2.2.2.2.2.2.2.1
theorem SkS.r_fi (S : SkS K h0 h B wh nx ah wt ht ch pn fi la to s0 s1 s2 s3 s4 s5 s6 s7 s8) : hget h (B + 8) = some (jA K 0 5 (fun i => bI (fi i))) := S.1.2.2.2.2.2.2.2.2.1
theorem SkS.r_la (S : SkS K h0 h B wh nx ah wt ht ch pn fi la to s0 s1 s2 s3 s4 s5 s6 s7 s8) : hget h (B + 9) = some (jA K 0 5 (fun i => bI (la i))) := S.1.2.2.2.2.2.2.2.2.2.1
theorem SkS.r_to (S : SkS K h0 h B wh nx ah wt ht ch pn fi la to s0 s1 s2 s3 s4 s5 s6 s7 s8) : hget h (B + 10) = some (jA K 0 5 to) := S.1.2.2.2.2.2.2.2.2.2.2
theorem SkS.w_wh {x' : Nat → Nat} (S : SkS K h0 h B wh nx ah wt ht ch pn fi la to s0 s1 s2 s3 s4 s5 s6 s7 s8) : SkS K h0 (hset h (B + 1) (jA K 0 400 (fun i => nI (x' i)))) B x' nx ah wt ht ch pn fi la to s0 s1 s2 s3 s4 s5 s6 s7 s8 := by
  refine ⟨⟨?_, ?_, ?_, ?_, ?_, ?_, ?_, ?_, ?_, ?_, ?_⟩, S.2.tr (SkF.set (by omega) S.r_wh rfl)⟩
  · rw [hget_set_ne _ (by omega)]; exact S.o
  · exact hget_set_same _ S.r_wh
  · rw [hget_set_ne _ (by omega)]; exact S.r_nx
  · rw [hget_set_ne _ (by omega)]; exact S.r_ah
  · rw [hget_set_ne _ (by omega)]; exact S.r_wt
  · rw [hget_set_ne _ (by omega)]; exact S.r_ht
  · rw [hget_set_ne _ (by omega)]; exact S.r_ch
  · rw [hget_set_ne _ (by omega)]; exact S.r_pn
  · rw [hget_set_ne _ (by omega)]; exact S.r_fi
  · rw [hget_set_ne _ (by omega)]; exact S.r_la
  · rw [hget_set_ne _ (by omega)]; exact S.r_to
theorem SkS.w_nx {x' : Nat → Option Nat} (S : SkS K h0 h B wh nx ah wt ht ch pn fi la to s0 s1 s2 s3 s4 s5 s6 s7 s8) : SkS K h0 (hset h (B + 2) (jA K 0 400 (fun i => bI (x' i)))) B wh x' ah wt ht ch pn fi la to s0 s1 s2 s3 s4 s5 s6 s7 s8 := by
  refine ⟨⟨?_, ?_, ?_, ?_, ?_, ?_, ?_, ?_, ?_, ?_, ?_⟩, S.2.tr (SkF.set (by omega) S.r_nx rfl)⟩
  · rw [hget_set_ne _ (by omega)]; exact S.o
  · rw [hget_set_ne _ (by omega)]; exact S.r_wh
  · exact hget_set_same _ S.r_nx
  · rw [hget_set_ne _ (by omega)]; exact S.r_ah
  · rw [hget_set_ne _ (by omega)]; exact S.r_wt
  · rw [hget_set_ne _ (by omega)]; exact S.r_ht
  · rw [hget_set_ne _ (by omega)]; exact S.r_ch
  · rw [hget_set_ne _ (by omega)]; exact S.r_pn
  · rw [hget_set_ne _ (by omega)]; exact S.r_fi
  · rw [hget_set_ne _ (by omega)]; exact S.r_la
  · rw [hget_set_ne _ (by omega)]; exact S.r_to
theorem SkS.w_ah {x' : Nat → Option Nat} (S : SkS K h0 h B wh nx ah wt ht ch pn fi la to s0 s1 s2 s3 s4 s5 s6 s7 s8) : SkS K h0 (hset h (B + 3) (jA K 0 400 (fun i => bI (x' i)))) B wh nx x' wt ht ch pn fi la to s0 s1 s2 s3 s4 s5 s6 s7 s8 := by
  refine ⟨⟨?_, ?_, ?_, ?_, ?_, ?_, ?_, ?_, ?_, ?_, ?_⟩, S.2.tr (SkF.set (by omega) S.r_ah rfl)⟩
  · rw [hget_set_ne _ (by omega)]; exact S.o
  · rw [hget_set_ne _ (by omega)]; exact S.r_wh
  · rw [hget_set_ne _ (by omega)]; exact S.r_nx
  · exact hget_set_same _ S.r_ah
  · rw [hget_set_ne _ (by omega)]; exact S.r_wt
  · rw [hget_set_ne _ (by omega)]; exact S.r_ht
  · rw [hget_set_ne _ (by omega)]; exact S.r_ch
  · rw [hget_set_ne _ (by omega)]; exact S.r_pn
  · rw [hget_set_ne _ (by omega)]; exact S.r_fi
  · rw [hget_set_ne _ (by omega)]; exact S.r_la
  · rw [hget_set_ne _ (by omega)]; exact S.r_to
theorem SkS.w_wt {x' : Nat → Int32} (S : SkS K h0 h B wh nx ah wt ht ch pn fi la to s0 s1 s2 s3 s4 s5 s6 s7 s8) : SkS K h0 (hset h (B + 4) (jA K 0 400 x')) B wh nx ah x' ht ch pn fi la to s0 s1 s2 s3 s4 s5 s6 s7 s8 := by
  refine ⟨⟨?_, ?_, ?_, ?_, ?_, ?_, ?_, ?_, ?_, ?_, ?_⟩, S.2.tr (SkF.set (by omega) S.r_wt rfl)⟩
  · rw [hget_set_ne _ (by omega)]; exact S.o
  · rw [hget_set_ne _ (by omega)]; exact S.r_wh
  · rw [hget_set_ne _ (by omega)]; exact S.r_nx
  · rw [hget_set_ne _ (by omega)]; exact S.r_ah
  · exact hget_set_same _ S.r_wt
  · rw [hget_set_ne _ (by omega)]; exact S.r_ht
  · rw [hget_set_ne _ (by omega)]; exact S.r_ch
  · rw [hget_set_ne _ (by omega)]; exact S.r_pn
  · rw [hget_set_ne _ (by omega)]; exact S.r_fi
  · rw [hget_set_ne _ (by omega)]; exact S.r_la
  · rw [hget_set_ne _ (by omega)]; exact S.r_to
theorem SkS.w_ht {x' : Nat → Int32} (S : SkS K h0 h B wh nx ah wt ht ch pn fi la to s0 s1 s2 s3 s4 s5 s6 s7 s8) : SkS K h0 (hset h (B + 5) (jA K 0 400 x')) B wh nx ah wt x' ch pn fi la to s0 s1 s2 s3 s4 s5 s6 s7 s8 := by
  refine ⟨⟨?_, ?_, ?_, ?_, ?_, ?_, ?_, ?_, ?_, ?_, ?_⟩, S.2.tr (SkF.set (by omega) S.r_ht rfl)⟩
  · rw [hget_set_ne _ (by omega)]; exact S.o
  · rw [hget_set_ne _ (by omega)]; exact S.r_wh
  · rw [hget_set_ne _ (by omega)]; exact S.r_nx
  · rw [hget_set_ne _ (by omega)]; exact S.r_ah
  · rw [hget_set_ne _ (by omega)]; exact S.r_wt
  · exact hget_set_same _ S.r_ht
  · rw [hget_set_ne _ (by omega)]; exact S.r_ch
  · rw [hget_set_ne _ (by omega)]; exact S.r_pn
  · rw [hget_set_ne _ (by omega)]; exact S.r_fi
  · rw [hget_set_ne _ (by omega)]; exact S.r_la
  · rw [hget_set_ne _ (by omega)]; exact S.r_to
theorem SkS.w_ch {x' : Nat → Int32} (S : SkS K h0 h B wh nx ah wt ht ch pn fi la to s0 s1 s2 s3 s4 s5 s6 s7 s8) : SkS K h0 (hset h (B + 6) (jA K 0 400 x')) B wh nx ah wt ht x' pn fi la to s0 s1 s2 s3 s4 s5 s6 s7 s8 := by
  refine ⟨⟨?_, ?_, ?_, ?_, ?_, ?_, ?_, ?_, ?_, ?_, ?_⟩, S.2.tr (SkF.set (by omega) S.r_ch rfl)⟩
  · rw [hget_set_ne _ (by omega)]; exact S.o
  · rw [hget_set_ne _ (by omega)]; exact S.r_wh
  · rw [hget_set_ne _ (by omega)]; exact S.r_nx
  · rw [hget_set_ne _ (by omega)]; exact S.r_ah
  · rw [hget_set_ne _ (by omega)]; exact S.r_wt
  · rw [hget_set_ne _ (by omega)]; exact S.r_ht
  · exact hget_set_same _ S.r_ch
  · rw [hget_set_ne _ (by omega)]; exact S.r_pn
  · rw [hget_set_ne _ (by omega)]; exact S.r_fi
  · rw [hget_set_ne _ (by omega)]; exact S.r_la
  · rw [hget_set_ne _ (by omega)]; exact S.r_to
theorem SkS.w_pn {x' : Nat → Nat} (S : SkS K h0 h B wh nx ah wt ht ch pn fi la to s0 s1 s2 s3 s4 s5 s6 s7 s8) : SkS K h0 (hset h (B + 7) (jA K 4 400 (fun i => nI (x' i)))) B wh nx ah wt ht ch x' fi la to s0 s1 s2 s3 s4 s5 s6 s7 s8 := by
  refine ⟨⟨?_, ?_, ?_, ?_, ?_, ?_, ?_, ?_, ?_, ?_, ?_⟩, S.2.tr (SkF.set (by omega) S.r_pn rfl)⟩
  · rw [hget_set_ne _ (by omega)]; exact S.o
  · rw [hget_set_ne _ (by omega)]; exact S.r_wh
  · rw [hget_set_ne _ (by omega)]; exact S.r_nx
  · rw [hget_set_ne _ (by omega)]; exact S.r_ah
  · rw [hget_set_ne _ (by omega)]; exact S.r_wt
  · rw [hget_set_ne _ (by omega)]; exact S.r_ht
  · rw [hget_set_ne _ (by omega)]; exact S.r_ch
  · exact hget_set_same _ S.r_pn
  · rw [hget_set_ne _ (by omega)]; exact S.r_fi
  · rw [hget_set_ne _ (by omega)]; exact S.r_la
  · rw [hget_set_ne _ (by omega)]; exact S.r_to
theorem SkS.w_fi {x' : Nat → Option Nat} (S : SkS K h0 h B wh nx ah wt ht ch pn fi la to s0 s1 s2 s3 s4 s5 s6 s7 s8) : SkS K h0 (hset h (B + 8) (jA K 0 5 (fun i => bI (x' i)))) B wh nx ah wt ht ch pn x' la to s0 s1 s2 s3 s4 s5 s6 s7 s8 := by
  refine ⟨⟨?_, ?_, ?_, ?_, ?_, ?_, ?_, ?_, ?_, ?_, ?_⟩, S.2.tr (SkF.set (by omega) S.r_fi rfl)⟩
  · rw [hget_set_ne _ (by omega)]; exact S.o
  · rw [hget_set_ne _ (by omega)]; exact S.r_wh
  · rw [hget_set_ne _ (by omega)]; exact S.r_nx
  · rw [hget_set_ne _ (by omega)]; exact S.r_ah
  · rw [hget_set_ne _ (by omega)]; exact S.r_wt
  · rw [hget_set_ne _ (by omega)]; exact S.r_ht
  · rw [hget_set_ne _ (by omega)]; exact S.r_ch
  · rw [hget_set_ne _ (by omega)]; exact S.r_pn
  · exact hget_set_same _ S.r_fi
  · rw [hget_set_ne _ (by omega)]; exact S.r_la
  · rw [hget_set_ne _ (by omega)]; exact S.r_to
theorem SkS.w_la {x' : Nat → Option Nat} (S : SkS K h0 h B wh nx ah wt ht ch pn fi la to s0 s1 s2 s3 s4 s5 s6 s7 s8) : SkS K h0 (hset h (B + 9) (jA K 0 5 (fun i => bI (x' i)))) B wh nx ah wt ht ch pn fi x' to s0 s1 s2 s3 s4 s5 s6 s7 s8 := by
  refine ⟨⟨?_, ?_, ?_, ?_, ?_, ?_, ?_, ?_, ?_, ?_, ?_⟩, S.2.tr (SkF.set (by omega) S.r_la rfl)⟩
  · rw [hget_set_ne _ (by omega)]; exact S.o
  · rw [hget_set_ne _ (by omega)]; exact S.r_wh
  · rw [hget_set_ne _ (by omega)]; exact S.r_nx
  · rw [hget_set_ne _ (by omega)]; exact S.r_ah
  · rw [hget_set_ne _ (by omega)]; exact S.r_wt
  · rw [hget_set_ne _ (by omega)]; exact S.r_ht
  · rw [hget_set_ne _ (by omega)]; exact S.r_ch
  · rw [hget_set_ne _ (by omega)]; exact S.r_pn
  · rw [hget_set_ne _ (by omega)]; exact S.r_fi
  · exact hget_set_same _ S.r_la
  · rw [hget_set_ne _ (by omega)]; exact S.r_to
theorem SkS.w_to {x' : Nat → Int32} (S : SkS K h0 h B wh nx ah wt ht ch pn fi la to s0 s1 s2 s3 s4 s5 s6 s7 s8) : SkS K h0 (hset h (B + 10) (jA K 0 5 x')) B wh nx ah wt ht ch pn fi la x' s0 s1 s2 s3 s4 s5 s6 s7 s8 := by
  refine ⟨⟨?_, ?_, ?_, ?_, ?_, ?_, ?_, ?_, ?_, ?_, ?_⟩, S.2.tr (SkF.set (by omega) S.r_to rfl)⟩
  · rw [hget_set_ne _ (by omega)]; exact S.o
  · rw [hget_set_ne _ (by omega)]; exact S.r_wh
  · rw [hget_set_ne _ (by omega)]; exact S.r_nx
  · rw [hget_set_ne _ (by omega)]; exact S.r_ah
  · rw [hget_set_ne _ (by omega)]; exact S.r_wt
  · rw [hget_set_ne _ (by omega)]; exact S.r_ht
  · rw [hget_set_ne _ (by omega)]; exact S.r_ch
  · rw [hget_set_ne _ (by omega)]; exact S.r_pn
  · rw [hget_set_ne _ (by omega)]; exact S.r_fi
  · rw [hget_set_ne _ (by omega)]; exact S.r_la
  · exact hget_set_same _ S.r_to
theorem SkS.w_o {j0 j1 j2 j3 j4 j5 j6 j7 j8 : Int32} (S : SkS K h0 h B wh nx ah wt ht ch pn fi la to s0 s1 s2 s3 s4 s5 s6 s7 s8) : SkS K h0 (hset h B (jO 3 (skO B j0 j1 j2 j3 j4 j5 j6 j7 j8))) B wh nx ah wt ht ch pn fi la to j0 j1 j2 j3 j4 j5 j6 j7 j8 := by
  refine ⟨⟨?_, ?_, ?_, ?_, ?_, ?_, ?_, ?_, ?_, ?_, ?_⟩, S.2.tr (SkF.set (k := 0) (by omega) S.o rfl)⟩
  · exact hget_set_same _ S.o
  · rw [hget_set_ne _ (by omega)]; exact S.r_wh
  · rw [hget_set_ne _ (by omega)]; exact S.r_nx
  · rw [hget_set_ne _ (by omega)]; exact S.r_ah
  · rw [hget_set_ne _ (by omega)]; exact S.r_wt
  · rw [hget_set_ne _ (by omega)]; exact S.r_ht
  · rw [hget_set_ne _ (by omega)]; exact S.r_ch
  · rw [hget_set_ne _ (by omega)]; exact S.r_pn
  · rw [hget_set_ne _ (by omega)]; exact S.r_fi
  · rw [hget_set_ne _ (by omega)]; exact S.r_la
  · rw [hget_set_ne _ (by omega)]; exact S.r_to
end
section JR
variable {M : JM} {K : JK} {l0 : Launch} {cc : ByteArray} {own : String} {nL : Nat} {ret : Option FieldType} {nm : String} {hh : List (Nat × Nat × Nat × Nat)} {lv : Nat} {h0 : JIH} {QR : JQR} {QX : JQX} {h hs : JIH} {pc : Nat} {ls : List (Option Value)} {st : List Value}
variable {B : Nat} {wh : Nat → Nat} {nx : Nat → Option Nat} {ah : Nat → Option Nat} {wt : Nat → Int32} {ht : Nat → Int32} {ch : Nat → Int32} {pn : Nat → Nat} {fi : Nat → Option Nat} {la : Nat → Option Nat} {to : Nat → Int32} {s0 s1 s2 s3 s4 s5 s6 s7 s8 : Int32}
theorem J.sk_wh {j : Nat} {i : Int32} {x : Nat} (X : JX M K l0 cc own nL ret nm hh lv h0 QR QX) (hd : decode cc pc = .ok (.iastore, 1)) (S : SkS K hs h B wh nx ah wt ht ch pn fi la to s0 s1 s2 s3 s4 s5 s6 s7 s8) (hi : i = nI j) (hj : j < 400) (k : ∀ h' : JIH, SkS K hs h' B (va_up wh j x) nx ah wt ht ch pn fi la to s0 s1 s2 s3 s4 s5 s6 s7 s8 → J M h' (pc + 1) ls st) : J M h pc ls (.int (nI x) :: .int i :: .ref (B + 1) :: st) := by
  exact J.iast X hd S.r_wh hi hj (by rw [upd_n]; exact k _ S.w_wh)
theorem J.sk_nx {j : Nat} {i : Int32} {x : Option Nat} (X : JX M K l0 cc own nL ret nm hh lv h0 QR QX) (hd : decode cc pc = .ok (.iastore, 1)) (S : SkS K hs h B wh nx ah wt ht ch pn fi la to s0 s1 s2 s3 s4 s5 s6 s7 s8) (hi : i = nI j) (hj : j < 400) (k : ∀ h' : JIH, SkS K hs h' B wh (va_up nx j x) ah wt ht ch pn fi la to s0 s1 s2 s3 s4 s5 s6 s7 s8 → J M h' (pc + 1) ls st) : J M h pc ls (.int (bI x) :: .int i :: .ref (B + 2) :: st) := by
  exact J.iast X hd S.r_nx hi hj (by rw [upd_o]; exact k _ S.w_nx)
theorem J.sk_nxN {j b : Nat} {i : Int32} (X : JX M K l0 cc own nL ret nm hh lv h0 QR QX) (hd : decode cc pc = .ok (.iastore, 1)) (S : SkS K hs h B wh nx ah wt ht ch pn fi la to s0 s1 s2 s3 s4 s5 s6 s7 s8) (hi : i = nI j) (hj : j < 400) (k : ∀ h' : JIH, SkS K hs h' B wh (va_up nx j (some b)) ah wt ht ch pn fi la to s0 s1 s2 s3 s4 s5 s6 s7 s8 → J M h' (pc + 1) ls st) : J M h pc ls (.int (nI b) :: .int i :: .ref (B + 2) :: st) := J.sk_nx (x := some b) X hd S hi hj k
theorem J.sk_nxM {j : Nat} {i : Int32} (X : JX M K l0 cc own nL ret nm hh lv h0 QR QX) (hd : decode cc pc = .ok (.iastore, 1)) (S : SkS K hs h B wh nx ah wt ht ch pn fi la to s0 s1 s2 s3 s4 s5 s6 s7 s8) (hi : i = nI j) (hj : j < 400) (k : ∀ h' : JIH, SkS K hs h' B wh (va_up nx j none) ah wt ht ch pn fi la to s0 s1 s2 s3 s4 s5 s6 s7 s8 → J M h' (pc + 1) ls st) : J M h pc ls (.int (-1) :: .int i :: .ref (B + 2) :: st) := J.sk_nx (x := none) X hd S hi hj k
theorem J.sk_ah {j : Nat} {i : Int32} {x : Option Nat} (X : JX M K l0 cc own nL ret nm hh lv h0 QR QX) (hd : decode cc pc = .ok (.iastore, 1)) (S : SkS K hs h B wh nx ah wt ht ch pn fi la to s0 s1 s2 s3 s4 s5 s6 s7 s8) (hi : i = nI j) (hj : j < 400) (k : ∀ h' : JIH, SkS K hs h' B wh nx (va_up ah j x) wt ht ch pn fi la to s0 s1 s2 s3 s4 s5 s6 s7 s8 → J M h' (pc + 1) ls st) : J M h pc ls (.int (bI x) :: .int i :: .ref (B + 3) :: st) := by
  exact J.iast X hd S.r_ah hi hj (by rw [upd_o]; exact k _ S.w_ah)
theorem J.sk_ahN {j b : Nat} {i : Int32} (X : JX M K l0 cc own nL ret nm hh lv h0 QR QX) (hd : decode cc pc = .ok (.iastore, 1)) (S : SkS K hs h B wh nx ah wt ht ch pn fi la to s0 s1 s2 s3 s4 s5 s6 s7 s8) (hi : i = nI j) (hj : j < 400) (k : ∀ h' : JIH, SkS K hs h' B wh nx (va_up ah j (some b)) wt ht ch pn fi la to s0 s1 s2 s3 s4 s5 s6 s7 s8 → J M h' (pc + 1) ls st) : J M h pc ls (.int (nI b) :: .int i :: .ref (B + 3) :: st) := J.sk_ah (x := some b) X hd S hi hj k
theorem J.sk_ahM {j : Nat} {i : Int32} (X : JX M K l0 cc own nL ret nm hh lv h0 QR QX) (hd : decode cc pc = .ok (.iastore, 1)) (S : SkS K hs h B wh nx ah wt ht ch pn fi la to s0 s1 s2 s3 s4 s5 s6 s7 s8) (hi : i = nI j) (hj : j < 400) (k : ∀ h' : JIH, SkS K hs h' B wh nx (va_up ah j none) wt ht ch pn fi la to s0 s1 s2 s3 s4 s5 s6 s7 s8 → J M h' (pc + 1) ls st) : J M h pc ls (.int (-1) :: .int i :: .ref (B + 3) :: st) := J.sk_ah (x := none) X hd S hi hj k
theorem J.sk_wt {j : Nat} {i : Int32} {x : Int32} (X : JX M K l0 cc own nL ret nm hh lv h0 QR QX) (hd : decode cc pc = .ok (.iastore, 1)) (S : SkS K hs h B wh nx ah wt ht ch pn fi la to s0 s1 s2 s3 s4 s5 s6 s7 s8) (hi : i = nI j) (hj : j < 400) (k : ∀ h' : JIH, SkS K hs h' B wh nx ah (upd wt j x) ht ch pn fi la to s0 s1 s2 s3 s4 s5 s6 s7 s8 → J M h' (pc + 1) ls st) : J M h pc ls (.int (x) :: .int i :: .ref (B + 4) :: st) := by
  exact J.iast X hd S.r_wt hi hj (k _ S.w_wt)
theorem J.sk_ht {j : Nat} {i : Int32} {x : Int32} (X : JX M K l0 cc own nL ret nm hh lv h0 QR QX) (hd : decode cc pc = .ok (.iastore, 1)) (S : SkS K hs h B wh nx ah wt ht ch pn fi la to s0 s1 s2 s3 s4 s5 s6 s7 s8) (hi : i = nI j) (hj : j < 400) (k : ∀ h' : JIH, SkS K hs h' B wh nx ah wt (upd ht j x) ch pn fi la to s0 s1 s2 s3 s4 s5 s6 s7 s8 → J M h' (pc + 1) ls st) : J M h pc ls (.int (x) :: .int i :: .ref (B + 5) :: st) := by
  exact J.iast X hd S.r_ht hi hj (k _ S.w_ht)
theorem J.sk_ch {j : Nat} {i : Int32} {x : Int32} (X : JX M K l0 cc own nL ret nm hh lv h0 QR QX) (hd : decode cc pc = .ok (.iastore, 1)) (S : SkS K hs h B wh nx ah wt ht ch pn fi la to s0 s1 s2 s3 s4 s5 s6 s7 s8) (hi : i = nI j) (hj : j < 400) (k : ∀ h' : JIH, SkS K hs h' B wh nx ah wt ht (upd ch j x) pn fi la to s0 s1 s2 s3 s4 s5 s6 s7 s8 → J M h' (pc + 1) ls st) : J M h pc ls (.int (x) :: .int i :: .ref (B + 6) :: st) := by
  exact J.iast X hd S.r_ch hi hj (k _ S.w_ch)
theorem J.sk_pn {j : Nat} {i : Int32} {x : Nat} (X : JX M K l0 cc own nL ret nm hh lv h0 QR QX) (hd : decode cc pc = .ok (.bastore, 1)) (S : SkS K hs h B wh nx ah wt ht ch pn fi la to s0 s1 s2 s3 s4 s5 s6 s7 s8) (hx2 : x < 2) (hi : i = nI j) (hj : j < 400) (k : ∀ h' : JIH, SkS K hs h' B wh nx ah wt ht ch (va_up pn j x) fi la to s0 s1 s2 s3 s4 s5 s6 s7 s8 → J M h' (pc + 1) ls st) : J M h pc ls (.int (nI x) :: .int i :: .ref (B + 7) :: st) := by
  have hnar : vp_nar .boolean (nI x) = nI x := by rcases (show x = 0 ∨ x = 1 by omega) with rfl | rfl <;> rfl
  exact J.zast X hd S.r_pn hi hj (by rw [hnar, upd_n]; exact k _ S.w_pn)
theorem J.sk_fi {j : Nat} {i : Int32} {x : Option Nat} (X : JX M K l0 cc own nL ret nm hh lv h0 QR QX) (hd : decode cc pc = .ok (.iastore, 1)) (S : SkS K hs h B wh nx ah wt ht ch pn fi la to s0 s1 s2 s3 s4 s5 s6 s7 s8) (hi : i = nI j) (hj : j < 5) (k : ∀ h' : JIH, SkS K hs h' B wh nx ah wt ht ch pn (va_up fi j x) la to s0 s1 s2 s3 s4 s5 s6 s7 s8 → J M h' (pc + 1) ls st) : J M h pc ls (.int (bI x) :: .int i :: .ref (B + 8) :: st) := by
  exact J.iast X hd S.r_fi hi hj (by rw [upd_o]; exact k _ S.w_fi)
theorem J.sk_fiN {j b : Nat} {i : Int32} (X : JX M K l0 cc own nL ret nm hh lv h0 QR QX) (hd : decode cc pc = .ok (.iastore, 1)) (S : SkS K hs h B wh nx ah wt ht ch pn fi la to s0 s1 s2 s3 s4 s5 s6 s7 s8) (hi : i = nI j) (hj : j < 5) (k : ∀ h' : JIH, SkS K hs h' B wh nx ah wt ht ch pn (va_up fi j (some b)) la to s0 s1 s2 s3 s4 s5 s6 s7 s8 → J M h' (pc + 1) ls st) : J M h pc ls (.int (nI b) :: .int i :: .ref (B + 8) :: st) := J.sk_fi (x := some b) X hd S hi hj k
theorem J.sk_fiM {j : Nat} {i : Int32} (X : JX M K l0 cc own nL ret nm hh lv h0 QR QX) (hd : decode cc pc = .ok (.iastore, 1)) (S : SkS K hs h B wh nx ah wt ht ch pn fi la to s0 s1 s2 s3 s4 s5 s6 s7 s8) (hi : i = nI j) (hj : j < 5) (k : ∀ h' : JIH, SkS K hs h' B wh nx ah wt ht ch pn (va_up fi j none) la to s0 s1 s2 s3 s4 s5 s6 s7 s8 → J M h' (pc + 1) ls st) : J M h pc ls (.int (-1) :: .int i :: .ref (B + 8) :: st) := J.sk_fi (x := none) X hd S hi hj k
theorem J.sk_la {j : Nat} {i : Int32} {x : Option Nat} (X : JX M K l0 cc own nL ret nm hh lv h0 QR QX) (hd : decode cc pc = .ok (.iastore, 1)) (S : SkS K hs h B wh nx ah wt ht ch pn fi la to s0 s1 s2 s3 s4 s5 s6 s7 s8) (hi : i = nI j) (hj : j < 5) (k : ∀ h' : JIH, SkS K hs h' B wh nx ah wt ht ch pn fi (va_up la j x) to s0 s1 s2 s3 s4 s5 s6 s7 s8 → J M h' (pc + 1) ls st) : J M h pc ls (.int (bI x) :: .int i :: .ref (B + 9) :: st) := by
  exact J.iast X hd S.r_la hi hj (by rw [upd_o]; exact k _ S.w_la)
theorem J.sk_laN {j b : Nat} {i : Int32} (X : JX M K l0 cc own nL ret nm hh lv h0 QR QX) (hd : decode cc pc = .ok (.iastore, 1)) (S : SkS K hs h B wh nx ah wt ht ch pn fi la to s0 s1 s2 s3 s4 s5 s6 s7 s8) (hi : i = nI j) (hj : j < 5) (k : ∀ h' : JIH, SkS K hs h' B wh nx ah wt ht ch pn fi (va_up la j (some b)) to s0 s1 s2 s3 s4 s5 s6 s7 s8 → J M h' (pc + 1) ls st) : J M h pc ls (.int (nI b) :: .int i :: .ref (B + 9) :: st) := J.sk_la (x := some b) X hd S hi hj k
theorem J.sk_laM {j : Nat} {i : Int32} (X : JX M K l0 cc own nL ret nm hh lv h0 QR QX) (hd : decode cc pc = .ok (.iastore, 1)) (S : SkS K hs h B wh nx ah wt ht ch pn fi la to s0 s1 s2 s3 s4 s5 s6 s7 s8) (hi : i = nI j) (hj : j < 5) (k : ∀ h' : JIH, SkS K hs h' B wh nx ah wt ht ch pn fi (va_up la j none) to s0 s1 s2 s3 s4 s5 s6 s7 s8 → J M h' (pc + 1) ls st) : J M h pc ls (.int (-1) :: .int i :: .ref (B + 9) :: st) := J.sk_la (x := none) X hd S hi hj k
theorem J.sk_to {j : Nat} {i : Int32} {x : Int32} (X : JX M K l0 cc own nL ret nm hh lv h0 QR QX) (hd : decode cc pc = .ok (.iastore, 1)) (S : SkS K hs h B wh nx ah wt ht ch pn fi la to s0 s1 s2 s3 s4 s5 s6 s7 s8) (hi : i = nI j) (hj : j < 5) (k : ∀ h' : JIH, SkS K hs h' B wh nx ah wt ht ch pn fi la (upd to j x) s0 s1 s2 s3 s4 s5 s6 s7 s8 → J M h' (pc + 1) ls st) : J M h pc ls (.int (x) :: .int i :: .ref (B + 10) :: st) := by
  exact J.iast X hd S.r_to hi hj (k _ S.w_to)
theorem J.sk_s0 {idx : Nat} {v : Int32} (X : JX M K l0 cc own nL ret nm hh lv h0 QR QX) (hd : decode cc pc = .ok (.putfield idx, 3)) (pl : jPL own nm idx 3 10 .int) (S : SkS K hs h B wh nx ah wt ht ch pn fi la to s0 s1 s2 s3 s4 s5 s6 s7 s8) (hn : narrow .int (.int v) = .int v) (hf : fits .int (.int v) = true) (k : ∀ h' : JIH, SkS K hs h' B wh nx ah wt ht ch pn fi la to v s1 s2 s3 s4 s5 s6 s7 s8 → J M h' (pc + 3) ls st) : J M h pc ls (.int v :: .ref B :: st) := J.putf X hd pl S.o (by show 10 < 19; decide) hn hf (k _ S.w_o)
theorem J.sk_s1 {idx : Nat} {v : Int32} (X : JX M K l0 cc own nL ret nm hh lv h0 QR QX) (hd : decode cc pc = .ok (.putfield idx, 3)) (pl : jPL own nm idx 3 11 .int) (S : SkS K hs h B wh nx ah wt ht ch pn fi la to s0 s1 s2 s3 s4 s5 s6 s7 s8) (hn : narrow .int (.int v) = .int v) (hf : fits .int (.int v) = true) (k : ∀ h' : JIH, SkS K hs h' B wh nx ah wt ht ch pn fi la to s0 v s2 s3 s4 s5 s6 s7 s8 → J M h' (pc + 3) ls st) : J M h pc ls (.int v :: .ref B :: st) := J.putf X hd pl S.o (by show 11 < 19; decide) hn hf (k _ S.w_o)
theorem J.sk_s2 {idx : Nat} {v : Int32} (X : JX M K l0 cc own nL ret nm hh lv h0 QR QX) (hd : decode cc pc = .ok (.putfield idx, 3)) (pl : jPL own nm idx 3 12 .int) (S : SkS K hs h B wh nx ah wt ht ch pn fi la to s0 s1 s2 s3 s4 s5 s6 s7 s8) (hn : narrow .int (.int v) = .int v) (hf : fits .int (.int v) = true) (k : ∀ h' : JIH, SkS K hs h' B wh nx ah wt ht ch pn fi la to s0 s1 v s3 s4 s5 s6 s7 s8 → J M h' (pc + 3) ls st) : J M h pc ls (.int v :: .ref B :: st) := J.putf X hd pl S.o (by show 12 < 19; decide) hn hf (k _ S.w_o)
theorem J.sk_s3 {idx : Nat} {v : Int32} (X : JX M K l0 cc own nL ret nm hh lv h0 QR QX) (hd : decode cc pc = .ok (.putfield idx, 3)) (pl : jPL own nm idx 3 13 .int) (S : SkS K hs h B wh nx ah wt ht ch pn fi la to s0 s1 s2 s3 s4 s5 s6 s7 s8) (hn : narrow .int (.int v) = .int v) (hf : fits .int (.int v) = true) (k : ∀ h' : JIH, SkS K hs h' B wh nx ah wt ht ch pn fi la to s0 s1 s2 v s4 s5 s6 s7 s8 → J M h' (pc + 3) ls st) : J M h pc ls (.int v :: .ref B :: st) := J.putf X hd pl S.o (by show 13 < 19; decide) hn hf (k _ S.w_o)
theorem J.sk_s4 {idx : Nat} {v : Int32} (X : JX M K l0 cc own nL ret nm hh lv h0 QR QX) (hd : decode cc pc = .ok (.putfield idx, 3)) (pl : jPL own nm idx 3 14 .int) (S : SkS K hs h B wh nx ah wt ht ch pn fi la to s0 s1 s2 s3 s4 s5 s6 s7 s8) (hn : narrow .int (.int v) = .int v) (hf : fits .int (.int v) = true) (k : ∀ h' : JIH, SkS K hs h' B wh nx ah wt ht ch pn fi la to s0 s1 s2 s3 v s5 s6 s7 s8 → J M h' (pc + 3) ls st) : J M h pc ls (.int v :: .ref B :: st) := J.putf X hd pl S.o (by show 14 < 19; decide) hn hf (k _ S.w_o)
theorem J.sk_s5 {idx : Nat} {v : Int32} (X : JX M K l0 cc own nL ret nm hh lv h0 QR QX) (hd : decode cc pc = .ok (.putfield idx, 3)) (pl : jPL own nm idx 3 15 .int) (S : SkS K hs h B wh nx ah wt ht ch pn fi la to s0 s1 s2 s3 s4 s5 s6 s7 s8) (hn : narrow .int (.int v) = .int v) (hf : fits .int (.int v) = true) (k : ∀ h' : JIH, SkS K hs h' B wh nx ah wt ht ch pn fi la to s0 s1 s2 s3 s4 v s6 s7 s8 → J M h' (pc + 3) ls st) : J M h pc ls (.int v :: .ref B :: st) := J.putf X hd pl S.o (by show 15 < 19; decide) hn hf (k _ S.w_o)
theorem J.sk_s6 {idx : Nat} {v : Int32} (X : JX M K l0 cc own nL ret nm hh lv h0 QR QX) (hd : decode cc pc = .ok (.putfield idx, 3)) (pl : jPL own nm idx 3 16 .int) (S : SkS K hs h B wh nx ah wt ht ch pn fi la to s0 s1 s2 s3 s4 s5 s6 s7 s8) (hn : narrow .int (.int v) = .int v) (hf : fits .int (.int v) = true) (k : ∀ h' : JIH, SkS K hs h' B wh nx ah wt ht ch pn fi la to s0 s1 s2 s3 s4 s5 v s7 s8 → J M h' (pc + 3) ls st) : J M h pc ls (.int v :: .ref B :: st) := J.putf X hd pl S.o (by show 16 < 19; decide) hn hf (k _ S.w_o)
theorem J.sk_s7 {idx : Nat} {v : Int32} (X : JX M K l0 cc own nL ret nm hh lv h0 QR QX) (hd : decode cc pc = .ok (.putfield idx, 3)) (pl : jPL own nm idx 3 17 .int) (S : SkS K hs h B wh nx ah wt ht ch pn fi la to s0 s1 s2 s3 s4 s5 s6 s7 s8) (hn : narrow .int (.int v) = .int v) (hf : fits .int (.int v) = true) (k : ∀ h' : JIH, SkS K hs h' B wh nx ah wt ht ch pn fi la to s0 s1 s2 s3 s4 s5 s6 v s8 → J M h' (pc + 3) ls st) : J M h pc ls (.int v :: .ref B :: st) := J.putf X hd pl S.o (by show 17 < 19; decide) hn hf (k _ S.w_o)
theorem J.sk_s8 {idx : Nat} {v : Int32} (X : JX M K l0 cc own nL ret nm hh lv h0 QR QX) (hd : decode cc pc = .ok (.putfield idx, 3)) (pl : jPL own nm idx 3 18 .int) (S : SkS K hs h B wh nx ah wt ht ch pn fi la to s0 s1 s2 s3 s4 s5 s6 s7 s8) (hn : narrow .int (.int v) = .int v) (hf : fits .int (.int v) = true) (k : ∀ h' : JIH, SkS K hs h' B wh nx ah wt ht ch pn fi la to s0 s1 s2 s3 s4 s5 s6 s7 v → J M h' (pc + 3) ls st) : J M h pc ls (.int v :: .ref B :: st) := J.putf X hd pl S.o (by show 18 < 19; decide) hn hf (k _ S.w_o)
end JR
