/-! rows that read and write the ideal heap; returns; calls -/
abbrev jO (ci : Nat) (fs : List Value) : va_E := .inr (ci, fs)
abbrev jA (K : JK) (t n : Nat) (f : Nat → Int32) : va_E := .inl (K.2.1 t, n, .inl f)
abbrev jAI (K : JK) (n : Nat) (f : Nat → Int32) : va_E := .inl (K.2.1 0, n, .inl f)
abbrev jAL (K : JK) (n : Nat) (f : Nat → Int64) : va_E := .inl (K.2.1 3, n, .inr (.inl f))
abbrev jAR (K : JK) (t n : Nat) (f : Nat → Option Nat) : va_E := .inl (K.2.1 t, n, .inr (.inr (.inr (.inr f))))
theorem jnestF {K : JK} (F : JF K) {U : State} (hW : K.2.2.WarmedH U.vm) {a : String} {i : Nat} {b n d g : String} (hw : Cond.fieldLinkNest a i b n d g ∈ lw_tbl) (A : Array Value) : (Cond.fieldLinkNest a i b n d g).before A U = true := by
  obtain ⟨-, a0, h, -⟩ := F
  exact va_Nw.use rfl (va_Nw.warmF hW (va_Nw.of rfl (h _ hw)))
theorem jnestM {K : JK} (F : JF K) {U : State} (hW : K.2.2.WarmedH U.vm) {a : String} {i : Nat} {x : MethodName} {g : String} (hw : Cond.methodLinkNest a i x g ∈ lw_tbl) (A : Array Value) : (Cond.methodLinkNest a i x g).before A U = true := by
  obtain ⟨-, a0, h, -⟩ := F
  exact va_Nw.use rfl (va_Nw.warmM hW (va_Nw.of rfl (h _ hw)))
theorem jcast {K : JK} (F : JF K) {U : State} (hW : K.2.2.WarmedH U.vm) {a b : String} (hw : Cond.castable a b ∈ lw_tbl) : va_Nw (.castable a b) U := by
  obtain ⟨-, a0, h, -⟩ := F
  exact va_Nw.warmC hW (va_Nw.of rfl (h _ hw))
/-- a class's own entry of a field -/
def jFL (own : String) (idx ci k : Nat) : Prop := ∃ (C : String) (T : u_T) (N : Nat) (ref : String), jcl[ci]? = some (C, T, N) ∧ k < N ∧ (Cond.fieldLink own idx ref (T k).2.1 (T k).2.2.1 ∈ lw_all ∨ ∃ host, Cond.fieldLinkNest own idx ref (T k).2.1 (T k).2.2.1 host ∈ lw_tbl) ∧ (ref = (T k).1 ∨ Cond.sameField ref (T k).1 (T k).2.1 (T k).2.2.1 ∈ lw_all)
/-- .. that may be written: no final field, or in its own constructor -/
def jPL (own nm : String) (idx ci k : Nat) (ty : FieldType) : Prop := ∃ (C : String) (T : u_T) (N : Nat) (ref : String), jcl[ci]? = some (C, T, N) ∧ k < N ∧ (((Cond.fieldLink own idx ref (T k).2.1 (T k).2.2.1 ∈ lw_all ∨ ∃ host, Cond.fieldLinkNest own idx ref (T k).2.1 (T k).2.2.1 host ∈ lw_tbl) ∧ (T k).2.2.2 = false) ∨ (Cond.fieldLink own idx ref (T k).2.1 (T k).2.2.1 ∈ lw_all ∧ (T k).2.2.2 = true ∧ nm = "<init>" ∧ (T k).1 = own)) ∧ (ref = (T k).1 ∨ Cond.sameField ref (T k).1 (T k).2.1 (T k).2.2.1 ∈ lw_all) ∧ parseFieldDescriptor (T k).2.2.1 = some ty
theorem jS {h : JIH} {H : Heap} {locs : List Loc} {b : Nat} (e : b = h.1) (hl : ∀ q ∈ locs, b ≤ q.base) : va_S (fun q => h.1 ≤ q) H H locs := ⟨Nat.le_refl _, fun _ _ _ => rfl, fun q hq => by rw [← e]; exact hl q hq⟩
theorem jH.put {K : JK} {h : JIH} {H H1 : Heap} {locs1 : List Loc} {p a : Nat} {e0 e : va_E} (g : jH K h H) (hp : (hL h)[p]? = some (a, e0)) (hz : H1.size ≤ hnew h) (hv : va_P K.1 jcl ((hL h).set p (a, e)) H1) (ho : va_S (fun q => h.1 ≤ q) H H1 locs1) (he : esz e = esz e0) : jH K (hset h a e) H1 := by
  refine ⟨by rw [hset_1]; exact g.1, by rw [hnew_set]; exact Nat.le_antisymm hz (by rw [← g.2.1]; exact ho.1), jP.put hp hv, fun q hq => ?_, by rw [hres_set (hL_get hp) he]; exact g.2.2.2.2⟩
  rw [hset_1] at hq
  rw [ho.2.1 q (by rw [g.2.1]; unfold hnew; omega) (by omega)]
  exact g.2.2.2.1 q hq
theorem jGr.set {h0 h : JIH} {a : Nat} {e0 e : va_E} (g : jGr h0 h) (hp : hget h a = some e0) (he : esz e = esz e0) : jGr h0 (hset h a e) := ⟨g.1.trans (hset_1 _ _ _).symm, by rw [hset_len]; exact g.2.1, by rw [hsl_set hp he]; exact g.2.2⟩
theorem jGr.push {h0 h : JIH} (t : Nat) (e : va_E) (g : jGr h0 h) : jGr h0 (hpush h t e) := ⟨g.1, by rw [hpush_len]; have := g.2.1; omega, by rw [hsl_push]; have := g.2.2; omega⟩
theorem jH.push {K : JK} {h : JIH} {H H1 : Heap} {t : Nat} {e : va_E} (g : jH K h H) (hz : H1.size = H.size + 1) (hv : va_at K.1 jcl (hnew h, e) H1) (ho : ∀ q : Nat, q < H.size → H1[q]? = H[q]?) (hr : hres h + (8 + esz e) ≤ jRL) : jH K (hpush h t e) H1 := by
  refine ⟨g.1, by rw [hz, hnew_push, g.2.1], fun a e' ha => ?_, fun q hq => ?_, by rw [hres_push]; exact hr⟩
  · by_cases q : a = hnew h
    · subst q
      rw [hget_push_new] at ha
      cases ha
      exact hv
    · rw [hget_push_ne t e q] at ha
      exact (g.2.2.1 a e' ha).kept (ho a (by rw [g.2.1]; exact hget_lt ha))
  · rw [ho q (by rw [g.2.1]; unfold hnew; have : q < h.1 := hq; omega)]
    exact g.2.2.2.1 q hq
theorem jroom_c {h0 h : JIH} {lv n : Nat} (g : jGr h0 h) (hr : hres h + (8 + n) ≤ jRL) : h.2.length - h0.2.length + 1 ≤ (jroom lv h0).cells ∧ hsl h - hsl h0 + n ≤ (jroom lv h0).slots := by
  show _ ≤ jLC - h0.2.length ∧ _ ≤ jLS - hsl h0
  have h1 := g.2.1; have h2 := g.2.2
  unfold hres at hr
  unfold jRL at hr
  unfold jLC jLS
  omega
theorem jroom_k {h0 h : JIH} {lv : Nat} (g : jGr h0 h) (hr : hres h ≤ jRL) : h.2.length - h0.2.length + (jLC - h.2.length) ≤ (jroom lv h0).cells ∧ hsl h - hsl h0 + (jLS - hsl h) ≤ (jroom lv h0).slots := by
  show _ ≤ jLC - h0.2.length ∧ _ ≤ jLS - hsl h0
  have h1 := g.2.1; have h2 := g.2.2
  unfold hres at hr
  unfold jRL at hr
  unfold jLC jLS
  omega
section JR
variable {M : JM} {K : JK} {l0 : Launch} {cc : ByteArray} {own : String} {nL : Nat} {ret : Option FieldType} {nm : String} {hh : List (Nat × Nat × Nat × Nat)} {lv : Nat} {h0 : JIH} {QR : JQR} {QX : JQX} {h : JIH} {pc : Nat} {ls : List (Option Value)} {st : List Value}
theorem jcnt {s : State} {h1 h : JIH} (hs0 : s.heap.size = hnew h1) (g : jGr h1 h) : s.heap.size + (h.2.length - h1.2.length) = hnew h := by
  have h2 := g.2.1; have h3 := g.1
  rw [hs0]; unfold hnew; omega
theorem J.getf {idx ci k a : Nat} {fs : List Value} {v : Value} (X : JX M K l0 cc own nL ret nm hh lv h0 QR QX) (hd : decode cc pc = .ok (.getfield idx, 3)) (fl : jFL own idx ci k) (hf : hget h a = some (jO ci fs)) (hv : fs[k]? = some v) (kk : J M h (pc + 3) ls (v :: st)) : J M h pc ls (.ref a :: st) := by
  obtain ⟨K1, h1, R1, X1, p, l, e, R, s, m, args, below, meth, c⟩ := M
  obtain ⟨⟨rfl, rfl, rfl, rfl, rfl⟩, hx, hb, hml, hown, hr, hlk, hts, F, hW, hR, hs0, hb0, hnm, htab⟩ := X
  intro H locs la hH hlo hla hg
  obtain ⟨C, T, N, ref, hc, hk, hlink, hsame⟩ := fl
  obtain ⟨hin, -, -, -, -⟩ := jclok hc
  obtain ⟨q0, he⟩ := hL_of hf
  have hs : ∀ x, s.fieldFound? (T k).1 (T k).2.1 (T k).2.2.1 = some x → s.fieldFound? ref (T k).2.1 (T k).2.2.1 = some x := by
    rcases hsame with rfl | hw
    · exact fun _ h => h
    · exact fun x hx => u_same (hts _ hw) x hx
  rcases hlink with hl | ⟨host, hl⟩
  · exact va_get hx hb hts hin hown (jK F hW) hH.2.2.1.va q0 he hc k hk (hts _ hl) hs hv hd (kk H locs la hH hlo hla hg)
  · exact va_getN hx hb hts hin hown (jK F hW) hH.2.2.1.va q0 he hc k hk (jnestF F hW hl _) hs hv hd (kk H locs la hH hlo hla hg)
/-- a store that the kit's row hands over without the heap's size: it is the old one, by the room's count -/
theorem jsize {p : Program} {l : Launch} {e : Env} {R : Room} {s : State} {m : MethodId} {args : Array Value} {below : List Frame} {meth : Method} {c : Code} {H : Heap} {locs : List Loc} {cells slots : Nat} {Q : State → Prop} {g : JFrame} {z : Nat} (hz : s.heap.size + cells = z) (kk : H.size ≤ z → W p l e R s m args below meth c H locs cells slots Q g) : W p l e R s m args below meth c H locs cells slots Q g := by
  intro T hT X
  exact kk (by rw [← hT, ← hz]; exact X.heapSize) T hT X
theorem jfin {K1 : JK} {h1 : JIH} {R1 : JQR} {X1 : JQX} {p : Program} {l : Launch} {e : Env} {R : Room} {s : State} {m : MethodId} {args : Array Value} {below : List Frame} {meth : Method} {c : Code} {h : JIH} {H H1 : Heap} {locs1 : List Loc} {la : Array Slot} {q0 a pc : Nat} {e0 e1 : va_E} {ls : List (Option Value)} {st : List Value}
    (kk : J (K1, h1, R1, X1, p, l, e, R, s, m, args, below, meth, c) (hset h a e1) pc ls st) (hH : jH K1 h H) (he : (hL h)[q0]? = some (a, e0)) (hle : H1.size ≤ hnew h) (hP1 : va_P K1.1 jcl ((hL h).set q0 (a, e1)) H1) (hS1 : va_S (fun q => h.1 ≤ q) H H1 locs1) (hz : esz e1 = esz e0) (hg : jGr h1 h) (hla : jl la ls) :
    W p l e R s m args below meth c H1 locs1 (h.2.length - h1.2.length) (hsl h - hsl h1) (jQ K1 h1 R1 X1 below s) (F0 m pc la st) := by
  have k := kk H1 locs1 la (hH.put he hle hP1 hS1 hz) (fun q hq => by rw [hg.1]; exact hS1.2.2 q hq) hla (hg.set (hL_get he) hz)
  rw [hset_len, hsl_set (hL_get he) hz] at k
  exact k
theorem J.putf {idx ci k a : Nat} {fs : List Value} {v : Value} {ty : FieldType} (X : JX M K l0 cc own nL ret nm hh lv h0 QR QX) (hd : decode cc pc = .ok (.putfield idx, 3)) (fl : jPL own nm idx ci k ty) (hf : hget h a = some (jO ci fs)) (hl : k < fs.length) (hn : narrow ty v = v) (hfit : fits ty v = true) (kk : J M (hset h a (jO ci (fs.set k v))) (pc + 3) ls st) : J M h pc ls (v :: .ref a :: st) := by
  obtain ⟨K1, h1, R1, X1, p, l, e, R, s, m, args, below, meth, c⟩ := M
  obtain ⟨⟨rfl, rfl, rfl, rfl, rfl⟩, hx, hb, hml, hown, hr, hlk, hts, F, hW, hR, hs0, hb0, hnm, htab⟩ := X
  intro H locs la hH hlo hla hg
  obtain ⟨C, T, N, ref, hc, hk, hlink, hsame, hty0⟩ := fl
  obtain ⟨hin, ⟨ty0, hty⟩, hnm0, -, -⟩ := jclok hc
  obtain ⟨q0, he⟩ := hL_of hf
  have hs : ∀ x, s.fieldFound? (T k).1 (T k).2.1 (T k).2.2.1 = some x → s.fieldFound? ref (T k).2.1 (T k).2.2.1 = some x := by
    rcases hsame with rfl | hw
    · exact fun _ h => h
    · exact fun x hx => u_same (hts _ hw) x hx
  have hz : esz (jO ci (fs.set k v)) = esz (jO ci fs) := by show (fs.set k v).length = fs.length; simp
  have hD := jD h
  have hS := jS (H := H) hg.1 hlo
  rcases hlink with ⟨hl0 | ⟨host, hl0⟩, hfin⟩ | ⟨hl0, hfin, hin2, hdecl⟩
  · exact va_put hx hb hts hin ty0 hty hnm0 hown (jK F hW) hH.2.2.1.va hD hS q0 he hc k hk (hts _ hl0) hs hfin hty0 hn hfit hl hd (fun H1 locs1 hP1 hD1 hS1 => jsize (jcnt hs0 hg) fun hle => jfin kk hH he hle hP1 hS1 hz hg hla)
  · exact va_putN hx hb hts hin ty0 hty hnm0 hown (jK F hW) hH.2.2.1.va hD hS q0 he hc k hk (jnestF F hW hl0 _) hs hfin hty0 hn hfit hl hd (fun H1 locs1 hP1 hD1 hS1 => jsize (jcnt hs0 hg) fun hle => jfin kk hH he hle hP1 hS1 hz hg hla)
  · exact va_putF hx hb hts hin ty0 hty hnm0 hown (jK F hW) hH.2.2.1.va hD hS q0 he hc k hk (hts _ hl0) hs hfin (hnm.trans hin2) hdecl hty0 hn hfit hl hd (fun H1 locs1 hP1 hD1 hS1 => jsize (jcnt hs0 hg) fun hle => jfin kk hH he hle hP1 hS1 hz hg hla)
theorem J.iald {a n j : Nat} {f : Nat → Int32} {i : Int32} (X : JX M K l0 cc own nL ret nm hh lv h0 QR QX) (hd : decode cc pc = .ok (.iaload, 1)) (ha : hget h a = some (jA K 0 n f)) (hi : i = nI j) (hj : j < n) (k : J M h (pc + 1) ls (.int (f j) :: st)) (hn : n < 2147483648 := by first | decide | omega | assumption) : J M h pc ls (.int i :: .ref a :: st) := by
  obtain ⟨K1, h1, R1, X1, p, l, e, R, s, m, args, below, meth, c⟩ := M
  obtain ⟨⟨rfl, rfl, rfl, rfl, rfl⟩, hx, hb, hml, hown, hr, hlk, hts, F, hW, hR, hs0, hb0, hnm, htab⟩ := X
  intro H locs la hH hlo hla hg
  obtain ⟨q0, he⟩ := hL_of ha
  subst hi
  have k' := k H locs la hH hlo hla hg
  rw [← nI_clamp (n := j) (by omega)] at k'
  exact va_iald hx hb (jK F hW) hH.2.2.1.va q0 0 he rfl (vp_in_nI hj hn) hd k'
theorem J.bald {a n j : Nat} {f : Nat → Int32} {i : Int32} (X : JX M K l0 cc own nL ret nm hh lv h0 QR QX) (hd : decode cc pc = .ok (.baload, 1)) (ha : hget h a = some (jA K 1 n f)) (hi : i = nI j) (hj : j < n) (k : J M h (pc + 1) ls (.int (f j) :: st)) (hn : n < 2147483648 := by first | decide | omega | assumption) : J M h pc ls (.int i :: .ref a :: st) := by
  obtain ⟨K1, h1, R1, X1, p, l, e, R, s, m, args, below, meth, c⟩ := M
  obtain ⟨⟨rfl, rfl, rfl, rfl, rfl⟩, hx, hb, hml, hown, hr, hlk, hts, F, hW, hR, hs0, hb0, hnm, htab⟩ := X
  intro H locs la hH hlo hla hg
  obtain ⟨q0, he⟩ := hL_of ha
  subst hi
  have k' := k H locs la hH hlo hla hg
  rw [← nI_clamp (n := j) (by omega)] at k'
  exact va_bald hx hb (jK F hW) hH.2.2.1.va q0 1 he rfl (vp_in_nI hj hn) hd k'
theorem J.sald {a n j : Nat} {f : Nat → Int32} {i : Int32} (X : JX M K l0 cc own nL ret nm hh lv h0 QR QX) (hd : decode cc pc = .ok (.saload, 1)) (ha : hget h a = some (jA K 2 n f)) (hi : i = nI j) (hj : j < n) (k : J M h (pc + 1) ls (.int (f j) :: st)) (hn : n < 2147483648 := by first | decide | omega | assumption) : J M h pc ls (.int i :: .ref a :: st) := by
  obtain ⟨K1, h1, R1, X1, p, l, e, R, s, m, args, below, meth, c⟩ := M
  obtain ⟨⟨rfl, rfl, rfl, rfl, rfl⟩, hx, hb, hml, hown, hr, hlk, hts, F, hW, hR, hs0, hb0, hnm, htab⟩ := X
  intro H locs la hH hlo hla hg
  obtain ⟨q0, he⟩ := hL_of ha
  subst hi
  have k' := k H locs la hH hlo hla hg
  rw [← nI_clamp (n := j) (by omega)] at k'
  exact va_sald hx hb (jK F hW) hH.2.2.1.va q0 2 he rfl (vp_in_nI hj hn) hd k'
theorem J.zald {a n j : Nat} {f : Nat → Int32} {i : Int32} (X : JX M K l0 cc own nL ret nm hh lv h0 QR QX) (hd : decode cc pc = .ok (.baload, 1)) (ha : hget h a = some (jA K 4 n f)) (hi : i = nI j) (hj : j < n) (k : J M h (pc + 1) ls (.int (f j) :: st)) (hn : n < 2147483648 := by first | decide | omega | assumption) : J M h pc ls (.int i :: .ref a :: st) := by
  obtain ⟨K1, h1, R1, X1, p, l, e, R, s, m, args, below, meth, c⟩ := M
  obtain ⟨⟨rfl, rfl, rfl, rfl, rfl⟩, hx, hb, hml, hown, hr, hlk, hts, F, hW, hR, hs0, hb0, hnm, htab⟩ := X
  intro H locs la hH hlo hla hg
  obtain ⟨q0, he⟩ := hL_of ha
  subst hi
  have k' := k H locs la hH hlo hla hg
  rw [← nI_clamp (n := j) (by omega)] at k'
  exact va_zald hx hb (jK F hW) hH.2.2.1.va q0 4 he rfl (vp_in_nI hj hn) hd k'
theorem J.lald {a n j : Nat} {f : Nat → Int64} {i : Int32} (X : JX M K l0 cc own nL ret nm hh lv h0 QR QX) (hd : decode cc pc = .ok (.laload, 1)) (ha : hget h a = some (jAL K n f)) (hi : i = nI j) (hj : j < n) (k : J M h (pc + 1) ls (.long (f j) :: st)) (hn : n < 2147483648 := by first | decide | omega | assumption) : J M h pc ls (.int i :: .ref a :: st) := by
  obtain ⟨K1, h1, R1, X1, p, l, e, R, s, m, args, below, meth, c⟩ := M
  obtain ⟨⟨rfl, rfl, rfl, rfl, rfl⟩, hx, hb, hml, hown, hr, hlk, hts, F, hW, hR, hs0, hb0, hnm, htab⟩ := X
  intro H locs la hH hlo hla hg
  obtain ⟨q0, he⟩ := hL_of ha
  subst hi
  have k' := k H locs la hH hlo hla hg
  rw [← nI_clamp (n := j) (by omega)] at k'
  exact va_lald hx hb (jK F hW) hH.2.2.1.va q0 3 he rfl (vp_in_nI hj hn) hd k'
theorem J.iast {a n j : Nat} {f : Nat → Int32} {i : Int32} {x : Int32} (X : JX M K l0 cc own nL ret nm hh lv h0 QR QX) (hd : decode cc pc = .ok (.iastore, 1)) (ha : hget h a = some (jA K 0 n f)) (hi : i = nI j) (hj : j < n) (k : J M (hset h a (jA K 0 n (upd f j x))) (pc + 1) ls st) (hn : n < 2147483648 := by first | decide | omega | assumption) : J M h pc ls (.int x :: .int i :: .ref a :: st) := by
  obtain ⟨K1, h1, R1, X1, p, l, e, R, s, m, args, below, meth, c⟩ := M
  obtain ⟨⟨rfl, rfl, rfl, rfl, rfl⟩, hx, hb, hml, hown, hr, hlk, hts, F, hW, hR, hs0, hb0, hnm, htab⟩ := X
  intro H locs la hH hlo hla hg
  obtain ⟨q0, he⟩ := hL_of ha
  subst hi
  rw [← nI_clamp (n := j) (by omega)] at k
  exact va_iast hx hb (jK F hW) hH.2.2.1.va (jD h) (jS hg.1 hlo) q0 0 he rfl (vp_in_nI hj hn) hd (fun H1 locs1 hP1 hD1 hS1 => jsize (jcnt hs0 hg) fun hle => jfin k hH he hle hP1 hS1 rfl hg hla)
theorem J.bast {a n j : Nat} {f : Nat → Int32} {i : Int32} {x : Int32} (X : JX M K l0 cc own nL ret nm hh lv h0 QR QX) (hd : decode cc pc = .ok (.bastore, 1)) (ha : hget h a = some (jA K 1 n f)) (hi : i = nI j) (hj : j < n) (k : J M (hset h a (jA K 1 n (upd f j (vp_nar .byte x)))) (pc + 1) ls st) (hn : n < 2147483648 := by first | decide | omega | assumption) : J M h pc ls (.int x :: .int i :: .ref a :: st) := by
  obtain ⟨K1, h1, R1, X1, p, l, e, R, s, m, args, below, meth, c⟩ := M
  obtain ⟨⟨rfl, rfl, rfl, rfl, rfl⟩, hx, hb, hml, hown, hr, hlk, hts, F, hW, hR, hs0, hb0, hnm, htab⟩ := X
  intro H locs la hH hlo hla hg
  obtain ⟨q0, he⟩ := hL_of ha
  subst hi
  rw [← nI_clamp (n := j) (by omega)] at k
  exact va_bast hx hb (jK F hW) hH.2.2.1.va (jD h) (jS hg.1 hlo) q0 1 he rfl (vp_in_nI hj hn) hd (fun H1 locs1 hP1 hD1 hS1 => jsize (jcnt hs0 hg) fun hle => jfin k hH he hle hP1 hS1 rfl hg hla)
theorem J.sast {a n j : Nat} {f : Nat → Int32} {i : Int32} {x : Int32} (X : JX M K l0 cc own nL ret nm hh lv h0 QR QX) (hd : decode cc pc = .ok (.sastore, 1)) (ha : hget h a = some (jA K 2 n f)) (hi : i = nI j) (hj : j < n) (k : J M (hset h a (jA K 2 n (upd f j (vp_nar .short x)))) (pc + 1) ls st) (hn : n < 2147483648 := by first | decide | omega | assumption) : J M h pc ls (.int x :: .int i :: .ref a :: st) := by
  obtain ⟨K1, h1, R1, X1, p, l, e, R, s, m, args, below, meth, c⟩ := M
  obtain ⟨⟨rfl, rfl, rfl, rfl, rfl⟩, hx, hb, hml, hown, hr, hlk, hts, F, hW, hR, hs0, hb0, hnm, htab⟩ := X
  intro H locs la hH hlo hla hg
  obtain ⟨q0, he⟩ := hL_of ha
  subst hi
  rw [← nI_clamp (n := j) (by omega)] at k
  exact va_sast hx hb (jK F hW) hH.2.2.1.va (jD h) (jS hg.1 hlo) q0 2 he rfl (vp_in_nI hj hn) hd (fun H1 locs1 hP1 hD1 hS1 => jsize (jcnt hs0 hg) fun hle => jfin k hH he hle hP1 hS1 rfl hg hla)
theorem J.zast {a n j : Nat} {f : Nat → Int32} {i : Int32} {x : Int32} (X : JX M K l0 cc own nL ret nm hh lv h0 QR QX) (hd : decode cc pc = .ok (.bastore, 1)) (ha : hget h a = some (jA K 4 n f)) (hi : i = nI j) (hj : j < n) (k : J M (hset h a (jA K 4 n (upd f j (vp_nar .boolean x)))) (pc + 1) ls st) (hn : n < 2147483648 := by first | decide | omega | assumption) : J M h pc ls (.int x :: .int i :: .ref a :: st) := by
  obtain ⟨K1, h1, R1, X1, p, l, e, R, s, m, args, below, meth, c⟩ := M
  obtain ⟨⟨rfl, rfl, rfl, rfl, rfl⟩, hx, hb, hml, hown, hr, hlk, hts, F, hW, hR, hs0, hb0, hnm, htab⟩ := X
  intro H locs la hH hlo hla hg
  obtain ⟨q0, he⟩ := hL_of ha
  subst hi
  rw [← nI_clamp (n := j) (by omega)] at k
  exact va_zast hx hb (jK F hW) hH.2.2.1.va (jD h) (jS hg.1 hlo) q0 4 he rfl (vp_in_nI hj hn) hd (fun H1 locs1 hP1 hD1 hS1 => jsize (jcnt hs0 hg) fun hle => jfin k hH he hle hP1 hS1 rfl hg hla)
theorem J.last {a n j : Nat} {f : Nat → Int64} {i : Int32} {x : Int64} (X : JX M K l0 cc own nL ret nm hh lv h0 QR QX) (hd : decode cc pc = .ok (.lastore, 1)) (ha : hget h a = some (jAL K n f)) (hi : i = nI j) (hj : j < n) (k : J M (hset h a (jAL K n (vp_updL f j x))) (pc + 1) ls st) (hn : n < 2147483648 := by first | decide | omega | assumption) : J M h pc ls (.long x :: .int i :: .ref a :: st) := by
  obtain ⟨K1, h1, R1, X1, p, l, e, R, s, m, args, below, meth, c⟩ := M
  obtain ⟨⟨rfl, rfl, rfl, rfl, rfl⟩, hx, hb, hml, hown, hr, hlk, hts, F, hW, hR, hs0, hb0, hnm, htab⟩ := X
  intro H locs la hH hlo hla hg
  obtain ⟨q0, he⟩ := hL_of ha
  subst hi
  rw [← nI_clamp (n := j) (by omega)] at k
  exact va_last hx hb (jK F hW) hH.2.2.1.va (jD h) (jS hg.1 hlo) q0 3 he rfl (vp_in_nI hj hn) hd (fun H1 locs1 hP1 hD1 hS1 => jsize (jcnt hs0 hg) fun hle => jfin k hH he hle hP1 hS1 rfl hg hla)
theorem J.alen {a t : Nat} {cA : ClassId} {x : vp_A} {ty : FieldType} {v : Int32} (X : JX M K l0 cc own nL ret nm hh lv h0 QR QX) (hd : decode cc pc = .ok (.arraylength, 1)) (ha : hget h a = some (.inl (cA, x))) (ht : (jtys K)[t]? = some (cA, ty)) (hv : nI x.1 = v) (k : J M h (pc + 1) ls (.int v :: st)) : J M h pc ls (.ref a :: st) := by
  obtain ⟨K1, h1, R1, X1, p, l, e, R, s, m, args, below, meth, c⟩ := M
  obtain ⟨⟨rfl, rfl, rfl, rfl, rfl⟩, hx, hb, hml, hown, hr, hlk, hts, F, hW, hR, hs0, hb0, hnm, htab⟩ := X
  intro H locs la hH hlo hla hg
  obtain ⟨q0, he⟩ := hL_of ha
  exact va_alen hx hb (jK F hW) hH.2.2.1.va q0 t he ht hv hd (k H locs la hH hlo hla hg)
theorem J.aald {a t n j : Nat} {f : Nat → Option Nat} {i : Int32} {C : String} (X : JX M K l0 cc own nL ret nm hh lv h0 QR QX) (hd : decode cc pc = .ok (.aaload, 1)) (ha : hget h a = some (jAR K t n f)) (ht : (jtys K)[t]? = some (K.2.1 t, .object C)) (hi : i = nI j) (hj : j < n) (k : J M h (pc + 1) ls (va_rf (f j) :: st)) (hn : n < 2147483648 := by first | decide | omega | assumption) : J M h pc ls (.int i :: .ref a :: st) := by
  obtain ⟨K1, h1, R1, X1, p, l, e, R, s, m, args, below, meth, c⟩ := M
  obtain ⟨⟨rfl, rfl, rfl, rfl, rfl⟩, hx, hb, hml, hown, hr, hlk, hts, F, hW, hR, hs0, hb0, hnm, htab⟩ := X
  intro H locs la hH hlo hla hg
  obtain ⟨q0, he⟩ := hL_of ha
  subst hi
  have k' := k H locs la hH hlo hla hg
  rw [← nI_clamp (n := j) (by omega)] at k'
  exact va_aldq hx hb (jK F hW) hH.2.2.1.va q0 t he ht (vp_in_nI hj hn) hd k'
theorem J.aastN {a t n j : Nat} {f : Nat → Option Nat} {i : Int32} {C : String} (X : JX M K l0 cc own nL ret nm hh lv h0 QR QX) (hd : decode cc pc = .ok (.aastore, 1)) (ha : hget h a = some (jAR K t n f)) (ht : (jtys K)[t]? = some (K.2.1 t, .object C)) (hi : i = nI j) (hj : j < n) (k : J M (hset h a (jAR K t n (va_up f j none))) (pc + 1) ls st) (hn : n < 2147483648 := by first | decide | omega | assumption) : J M h pc ls (.null :: .int i :: .ref a :: st) := by
  obtain ⟨K1, h1, R1, X1, p, l, e, R, s, m, args, below, meth, c⟩ := M
  obtain ⟨⟨rfl, rfl, rfl, rfl, rfl⟩, hx, hb, hml, hown, hr, hlk, hts, F, hW, hR, hs0, hb0, hnm, htab⟩ := X
  intro H locs la hH hlo hla hg
  obtain ⟨q0, he⟩ := hL_of ha
  subst hi
  rw [← nI_clamp (n := j) (by omega)] at k
  exact va_astqN hx hb (jK F hW) hH.2.2.1.va (jD h) (jS hg.1 hlo) q0 t he ht (vp_in_nI hj hn) hd (fun H1 locs1 hP1 hD1 hS1 => jsize (jcnt hs0 hg) fun hle => jfin k hH he hle hP1 hS1 rfl hg hla)
theorem J.aastO {a t n j v ci : Nat} {f : Nat → Option Nat} {vs : List Value} {i : Int32} {E : String} {r : vw_C} (X : JX M K l0 cc own nL ret nm hh lv h0 QR QX) (hd : decode cc pc = .ok (.aastore, 1)) (ha : hget h a = some (jAR K t n f)) (ht : (jtys K)[t]? = some (K.2.1 t, .object E)) (hv : hget h v = some (jO ci vs)) (hc : jcl[ci]? = some r) (hca : Cond.castable r.1 E ∈ lw_tbl) (hi : i = nI j) (hj : j < n) (k : J M (hset h a (jAR K t n (va_up f j (some v)))) (pc + 1) ls st) (hn : n < 2147483648 := by first | decide | omega | assumption) : J M h pc ls (.ref v :: .int i :: .ref a :: st) := by
  obtain ⟨K1, h1, R1, X1, p, l, e, R, s, m, args, below, meth, c⟩ := M
  obtain ⟨⟨rfl, rfl, rfl, rfl, rfl⟩, hx, hb, hml, hown, hr, hlk, hts, F, hW, hR, hs0, hb0, hnm, htab⟩ := X
  intro H locs la hH hlo hla hg
  obtain ⟨q0, he⟩ := hL_of ha
  obtain ⟨q1, he1⟩ := hL_of hv
  subst hi
  rw [← nI_clamp (n := j) (by omega)] at k
  exact va_astqO hx hb (jK F hW) hH.2.2.1.va (jD h) (jS hg.1 hlo) q0 t q1 ci he ht (jcast F hW hca) he1 hc (vp_in_nI hj hn) hd (fun H1 locs1 hP1 hD1 hS1 => jsize (jcnt hs0 hg) fun hle => jfin k hH he hle hP1 hS1 rfl hg hla)
theorem J.aastS {a t n j v ci : Nat} {f : Nat → Option Nat} {vs : List Value} {i : Int32} {r : vw_C} (X : JX M K l0 cc own nL ret nm hh lv h0 QR QX) (hd : decode cc pc = .ok (.aastore, 1)) (ha : hget h a = some (jAR K t n f)) (hv : hget h v = some (jO ci vs)) (hc : jcl[ci]? = some r) (ht : (jtys K)[t]? = some (K.2.1 t, .object r.1)) (hi : i = nI j) (hj : j < n) (k : J M (hset h a (jAR K t n (va_up f j (some v)))) (pc + 1) ls st) (hn : n < 2147483648 := by first | decide | omega | assumption) : J M h pc ls (.ref v :: .int i :: .ref a :: st) := by
  obtain ⟨K1, h1, R1, X1, p, l, e, R, s, m, args, below, meth, c⟩ := M
  obtain ⟨⟨rfl, rfl, rfl, rfl, rfl⟩, hx, hb, hml, hown, hr, hlk, hts, F, hW, hR, hs0, hb0, hnm, htab⟩ := X
  intro H locs la hH hlo hla hg
  obtain ⟨q0, he⟩ := hL_of ha
  obtain ⟨q1, he1⟩ := hL_of hv
  subst hi
  rw [← nI_clamp (n := j) (by omega)] at k
  exact va_astq hx hb (jK F hW) hH.2.2.1.va (jD h) (jS hg.1 hlo) q0 t q1 ci he ht he1 hc (vp_in_nI hj hn) hd (fun H1 locs1 hP1 hD1 hS1 => jsize (jcnt hs0 hg) fun hle => jfin k hH he hle hP1 hS1 rfl hg hla)
end JR
