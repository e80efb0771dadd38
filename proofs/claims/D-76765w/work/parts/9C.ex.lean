/-! EXCEPTIONS over J: junk cells; thrown, caught, let out; the machine's own -/
def hjk (h : JIH) (zs : List Nat) : JIH := (h.1, h.2 ++ zs.map (fun n => (0, .inr n)))
theorem hjk_1 (h : JIH) (zs : List Nat) : (hjk h zs).1 = h.1 := rfl
theorem hjk_len (h : JIH) (zs : List Nat) : (hjk h zs).2.length = h.2.length + zs.length := by simp [hjk]
theorem hjk_sl (h : JIH) (zs : List Nat) : hsl (hjk h zs) = hsl h + zs.sum := by
  unfold hsl hjk
  have e : ∀ zs : List Nat, ((zs.map (fun n => ((0, .inr n) : JC))).map jcz).sum = zs.sum := by
    intro zs
    induction zs with
    | nil => rfl
    | cons z r ih => simp only [List.map_cons, List.sum_cons, ih]; rfl
  rw [List.map_append, List.sum_append, e]
theorem hjk_new (h : JIH) (zs : List Nat) : hnew (hjk h zs) = hnew h + zs.length := by
  unfold hnew; rw [hjk_len, hjk_1]; omega
theorem hjk_res (h : JIH) (zs : List Nat) : hres (hjk h zs) = hres h + (8 * zs.length + zs.sum) := by
  unfold hres; rw [hjk_len, hjk_sl]; omega
theorem hjk_get (h : JIH) (zs : List Nat) (a : Nat) : hget (hjk h zs) a = hget h a := by
  unfold hget
  show (if h.1 ≤ a then _ else _) = _
  by_cases h2 : h.1 ≤ a
  · rw [if_pos h2, if_pos h2]
    show ((h.2 ++ zs.map _)[a - h.1]?).bind jce = _
    by_cases h3 : a - h.1 < h.2.length
    · rw [List.getElem?_append_left h3]
    · rw [List.getElem?_append_right (by omega), List.getElem?_map, List.getElem?_eq_none (l := h.2) (by omega)]
      cases zs[a - h.1 - h.2.length]? <;> rfl
  · rw [if_neg h2, if_neg h2]
theorem hjk_tag (h : JIH) (zs : List Nat) (a : Nat) : htag (hjk h zs) a = htag h a := by
  unfold htag
  show (if h.1 ≤ a then _ else _) = _
  by_cases h2 : h.1 ≤ a
  · rw [if_pos h2, if_pos h2]
    show (((h.2 ++ zs.map _)[a - h.1]?).map Prod.fst).getD 0 = _
    by_cases h3 : a - h.1 < h.2.length
    · rw [List.getElem?_append_left h3]
    · rw [List.getElem?_append_right (by omega), List.getElem?_map, List.getElem?_eq_none (l := h.2) (by omega)]
      cases zs[a - h.1 - h.2.length]? <;> rfl
  · rw [if_neg h2, if_neg h2]
theorem jGr.jk {h0 h : JIH} (g : jGr h0 h) (zs : List Nat) : jGr h0 (hjk h zs) := ⟨g.1, by rw [hjk_len]; have := g.2.1; omega, by rw [hjk_sl]; have := g.2.2; omega⟩
theorem jH.jk {K : JK} {h : JIH} {H H1 : Heap} {zs : List Nat} (g : jH K h H) (hz : H1.size = hnew h + zs.length) (ho : ∀ q : Nat, q < H.size → H1[q]? = H[q]?) (hr : hres h + (8 * zs.length + zs.sum) ≤ jRL) : jH K (hjk h zs) H1 := by
  refine ⟨g.1, by rw [hz, hjk_new], fun a e' ha => ?_, fun q hq => ?_, by rw [hjk_res]; exact hr⟩
  · rw [hjk_get] at ha
    exact (g.2.2.1 a e' ha).kept (ho a (by rw [g.2.1]; exact hget_lt ha))
  · rw [ho q (by rw [g.2.1]; unfold hnew; have : q < h.1 := hq; omega)]
    exact g.2.2.2.1 q hq
/-- a state with some cells more, of which nothing is known -/
theorem jjunk {K1 : JK} {h1 h : JIH} {p : Program} {l : Launch} {e : Env} {R : Room} {s : State} {m : MethodId} {args : Array Value} {below : List Frame} {meth : Method} {c : Code} {T S : State} {locs : List Loc} {k n : Nat}
    (XS : Stand p l e R s m args below meth c T locs (h.2.length - h1.2.length) (hsl h - hsl h1)) (X5 : Stand p l e R s m args below meth c S locs (h.2.length - h1.2.length + k) (hsl h - hsl h1 + n))
    (hT : jH K1 h T.heap) (hg : jGr h1 h) (hs0 : s.heap.size = hnew h1) (f1 : T.heap.size ≤ S.heap.size) (f2 : ∀ q : Nat, q < T.heap.size → S.heap[q]? = T.heap[q]?) (f3 : S.heap.size ≤ T.heap.size + k) (hr : hres h + (8 * k + n) ≤ jRL) :
    ∃ zs : List Nat, zs.length ≤ k ∧ zs.sum ≤ n ∧ jH K1 (hjk h zs) S.heap ∧ jGr h1 (hjk h zs) ∧ Stand p l e R s m args below meth c S locs ((hjk h zs).2.length - h1.2.length) (hsl (hjk h zs) - hsl h1) := by
  have a1 := hg.2.1
  have a2 := hg.2.2
  have a3 := hT.2.1
  have a4 := jcnt (s := s) hs0 hg
  by_cases hd : S.heap.size = T.heap.size
  · refine ⟨[], Nat.zero_le _, Nat.zero_le _, hT.jk (by rw [hd, a3]; rfl) f2 (by simp; omega), hg.jk _, ?_⟩
    have hSH : S.heap = T.heap := by
      apply Array.ext_getElem?
      intro i
      by_cases hi : i < T.heap.size
      · exact f2 i hi
      · rw [Array.getElem?_eq_none (by omega), Array.getElem?_eq_none (by omega)]
    have b1 : (hjk h []).2.length = h.2.length := by rw [hjk_len]; rfl
    have b2 : hsl (hjk h []) = hsl h := by rw [hjk_sl]; rfl
    rw [b1, b2]
    obtain ⟨c1, c2, c3, c4, c5, c6⟩ := X5.same
    obtain ⟨d1, d2, d3, d4, d5, d6⟩ := XS.same
    refine { X5 with same := ⟨c1, c2, ?_, c4, ?_, c6⟩ }
    · show S.heap.size ≤ _
      rw [hd]; exact d3
    · show ((S.heap.toList.drop s.heap.size).map (·.slots.size)).sum ≤ _
      rw [hSH]; exact d5
  · obtain ⟨d, hd2⟩ : ∃ d, S.heap.size = T.heap.size + (d + 1) := ⟨S.heap.size - T.heap.size - 1, by omega⟩
    have z1 : (n :: List.replicate d 0).length = d + 1 := by simp
    have z2 : (n :: List.replicate d 0).sum = n := by simp
    refine ⟨n :: List.replicate d 0, by rw [z1]; omega, by rw [z2]; exact Nat.le_refl _, hT.jk (by rw [z1, hd2, a3]) f2 (by rw [z1, z2]; omega), hg.jk _, ?_⟩
    obtain ⟨c1, c2, c3, c4, c5, c6⟩ := X5.same
    rw [hjk_len, hjk_sl, z1, z2]
    refine { X5 with same := ⟨c1, c2, ?_, c4, ?_, c6⟩ }
    · show S.heap.size ≤ _
      omega
    · exact Nat.le_trans c5 (by omega)
section JR
variable {M : JM} {K : JK} {l0 : Launch} {cc : ByteArray} {own : String} {nL : Nat} {ret : Option FieldType} {nm : String} {hh : List (Nat × Nat × Nat × Nat)} {lv : Nat} {h0 : JIH} {QR : JQR} {QX : JQX} {h : JIH} {pc : Nat} {ls : List (Option Value)} {st : List Value}
theorem J.athrow {x ci N : Nat} {fs : List Value} {C : String} {T : u_T} (X : JX M K l0 cc own nL ret nm hh lv h0 QR QX) (hd : decode cc pc = .ok (.athrow, 1)) (hc : jcl[ci]? = some (C, T, N)) (hf : hget h x = some (jO ci fs)) (k : JT M h pc ls x C) : J M h pc ls (.ref x :: st) := by
  obtain ⟨K1, h1, R1, X1, p, l, e, R, s, m, args, below, meth, c⟩ := M
  obtain ⟨⟨rfl, rfl, rfl, rfl, rfl⟩, hx, hb, hml, hown, hr, hlk, hts, F, hW, hR, hs0, hb0, hnm, htab⟩ := X
  intro H locs la hH hlo hla hg
  refine vx_athrow hx hb hd (k H locs la st hH hlo hla hg ?_)
  obtain ⟨r, h2, cell, g1, g2, g3, -⟩ := hH.2.2.1 x _ hf
  exact ⟨cell, g1, g3, by rw [g2]; exact (F.1.1 ci _ hc).2.1⟩
/-- a row of the table that doesn't take it -/
def jPass (K : JK) (own E : String) (pc : Nat) (z : Nat × Nat × Nat × Nat) : Prop := covers ⟨z.1, z.2.1, z.2.2.1, z.2.2.2⟩ pc = false ∨ (z.2.2.2 ≠ 0 ∧ ∃ nm : String, Cond.classLink own z.2.2.2 nm ∈ lw_all ∧ va_Nc E nm K.2.2)
theorem JT.catch {x a b t ct : Nat} {E name : String} (X : JX M K l0 cc own nL ret nm hh lv h0 QR QX) (pre suf : List (Nat × Nat × Nat × Nat)) (hs : hh = pre ++ (a, b, t, ct) :: suf) (hp : ∀ z ∈ pre, jPass K own E pc z) (hx : covers ⟨a, b, t, ct⟩ pc = true) (h9 : ct ≠ 0) (hl : jCL own ct name) (hca : Cond.castable E name ∈ lw_tbl) (k : J M h t ls [.ref x]) : JT M h pc ls x E := by
  obtain ⟨K1, h1, R1, X1, p, l, e, R, s, m, args, below, meth, c⟩ := M
  obtain ⟨⟨rfl, rfl, rfl, rfl, rfl⟩, hx9, hb, hml, hown, hr, hlk, hts, F, hW, hR, hs0, hb0, hnm, htab⟩ := X
  intro H locs la st hH hlo hla hg hex
  obtain ⟨ce, g1, g2, g3⟩ := hex
  refine vx_catch (name := name) (E := E) (ce := ce) hown (tableOf pre) ⟨a, b, t, ct⟩ (tableOf suf) (by rw [htab, hs]; unfold tableOf; rw [List.map_append, List.map_cons]) (fun z hz => ?_) hx h9 (hts _ hl) (va_Nw.use rfl (jcast F hW hca)) g1 g2 (by rw [hW.alike.findClass]; exact g3) (k H locs la hH hlo hla hg)
  obtain ⟨y, hy, rfl⟩ := List.mem_map.mp hz
  rcases hp y hy with h | ⟨hz0, nm, hl1, hn1⟩
  · exact Or.inl h
  · exact Or.inr ⟨hz0, nm, hts _ hl1, va_Nc.moved hW.alike hn1⟩
theorem JT.out {x : Nat} {E : String} (X : JX M K l0 cc own nL ret nm hh lv h0 QR QX) (hp : ∀ z ∈ hh, jPass K own E pc z) (hq : QX x E h) : JT M h pc ls x E := by
  obtain ⟨K1, h1, R1, X1, p, l, e, R, s, m, args, below, meth, c⟩ := M
  obtain ⟨⟨rfl, rfl, rfl, rfl, rfl⟩, hx9, hb, hml, hown, hr, hlk, hts, F, hW, hR, hs0, hb0, hnm, htab⟩ := X
  intro H locs la st hH hlo hla hg hex
  obtain ⟨ce, hcell, hv, hcl0⟩ := id hex
  have hcl : s.vm.findClass E = some ce.cls := by rw [hW.alike.findClass]; exact hcl0
  intro T hT X
  have hpl : e.platform.magicAccessors = ({} : Platform).magicAccessors := by rw [X.admits.platform]
  obtain ⟨vm', hW', X', st9⟩ := X.outThrough hlk x (g := F0 m pc la st) rfl rfl rfl (cell := ce) (by rw [hT]; exact hcell) (by rw [hv]; rfl)
    (by obtain ⟨k9, h9, -⟩ := Vm.findClass_spec hcl; exact ⟨k9, h9⟩) (fun z hz => by
      rw [htab] at hz
      obtain ⟨y, hy, rfl⟩ := List.mem_map.mp hz
      rcases hp y hy with h | ⟨hz0, nm, hl1, hn1⟩
      · exact Or.inl h
      · obtain ⟨c6, hc6, hcl6⟩ := Cond.classLink_spec hown (hts _ hl1) e.platform hpl
        obtain ⟨a8, b8, h1, h2, h3⟩ := va_Nc.moved hW.alike hn1
        cases Option.some.inj (h1.symm.trans hcl)
        cases Option.some.inj (h2.symm.trans hc6)
        exact Or.inr ⟨hz0, _, hcl6, h3⟩)
  obtain ⟨g₀, hfr⟩ := X'.frames_eq
  have hend : Ended ((T.setVm vm').setFrames (.throwing x :: below)) below (.threw x) := State.frames_setFrames _ (State.cur_lt_of_frames hfr)
  refine ⟨(T.setVm vm').setFrames (.throwing x :: below), ?_, .threw x, X'.here.running, hend, Or.inr ⟨x, h, locs, E, rfl, hq, ?_, ?_, hg, (X'.ends _).1, (X'.ends _).2, hlo⟩⟩
  · rw [X.pushThrowing_eq]
    exact st9
  · show jEx K1 E x T.heap
    rw [hT]; exact hex
  · show jH K1 h T.heap
    rw [hT]; exact hH
end JR
/-! words at any later state -/
def jAt (K : JK) (ws : List Cond) : Prop := ∀ (U : State) (a : Array Value) (h : JIH), K.2.2.WarmedH U.vm → jH K h U.heap → ∀ w ∈ ws, w.before a U = true
theorem jAt.nil {K : JK} : jAt K [] := fun _ _ _ _ _ _ h => nomatch h
theorem jAt.cons {K : JK} {w : Cond} {ws : List Cond} (hw : jAt K [w]) (t : jAt K ws) : jAt K (w :: ws) := fun U a h hW hH w' h' => (List.mem_cons.mp h').elim (fun e => by rw [e]; exact hw U a h hW hH w List.mem_cons_self) (t U a h hW hH w')
theorem jAt.one {K : JK} {w : Cond} (hw : ∀ (U : State) (a : Array Value) (h : JIH), K.2.2.WarmedH U.vm → jH K h U.heap → w.before a U = true) : jAt K [w] := fun U a h hW hH w' h' => by
  cases List.mem_singleton.mp h'; exact hw U a h hW hH
theorem jAt.app {K : JK} {a b : List Cond} (ha : jAt K a) (hb : jAt K b) : jAt K (a ++ b) := fun U v h hW hH w hw => (List.mem_append.mp hw).elim (ha U v h hW hH w) (hb U v h hW hH w)
theorem jAt.all {K : JK} (F : JF K) {w : Cond} (hw : w ∈ lw_all) : jAt K [w] := jAt.one fun _ a _ hW _ => jgood F hW hw a
theorem jAt.cast {K : JK} (F : JF K) {C T : String} (hw : Cond.castable C T ∈ lw_tbl) : jAt K [Cond.castable C T] := jAt.one fun _ _ _ hW _ => va_Nw.use rfl (jcast F hW hw)
theorem jAt.decl {K : JK} (F : JF K) {y : MethodName} (hw : Cond.declares y ∈ lw_tbl) : jAt K [Cond.declares y] := jAt.one fun _ _ _ hW _ => by
  obtain ⟨-, a0, g, -⟩ := F
  exact va_Nw.use rfl (va_Nw.warmD hW (va_Nw.of rfl (g _ hw)))
/-- the two statics of Throwable -/
theorem jZq {K : JK} (F : JF K) {C n d : String} (hl : Cond.laysStatic C n d ∈ lw_tbl) (hi : Cond.initialized C ∈ lw_all) (hr : ∀ a0, (Jvm.Cond.and given_1 narrow_1).before a0 K.2.2 = true → (Cond.isRef (.static C n d)).before a0 K.2.2 = true) {U : State} {h : JIH} (hW : K.2.2.WarmedH U.vm) (hH : jH K h U.heap) : vx_Zq C n d (fun q => h.1 ≤ q) U U.heap := by
  obtain ⟨-, a0, g, hn, -⟩ := F
  have h1 : vx_Zq C n d (fun q => h.1 ≤ q) K.2.2 K.2.2.heap := vx_Zqof (g _ hl) (g _ (lw_all_tbl hi)) (hr a0 hn) (fun a ha hq => by rw [hH.1] at hq; omega)
  exact vx_Zq.moved hW.alike (h1.kept fun a ha hn => hH.2.2.2.1 a (by rw [hH.1]; exact ha))
/-- the machine is about to throw E with this text -/
def JN (M : JM) (h : JIH) (pc : Nat) (ls : List (Option Value)) (st : List Value) (E text : String) : Prop := match M with
  | (K, h0, QR, QX, p, l, e, R, s, m, args, below, meth, c) => ∀ (H : Heap) (locs : List Loc) (la : Array Slot), jH K h H → (∀ q ∈ locs, h0.1 ≤ q.base) → jl la ls → jGr h0 h → vx_Note p l e R s m args below meth c H locs (h.2.length - h0.2.length) (hsl h - hsl h0) (jQ K h0 QR QX below s) (F0 m pc la st) E text
def JNn (M : JM) (h : JIH) (pc : Nat) (ls : List (Option Value)) (st : List Value) : Prop := match M with
  | (K, h0, QR, QX, p, l, e, R, s, m, args, below, meth, c) => ∀ (H : Heap) (locs : List Loc) (la : Array Slot), jH K h H → (∀ q ∈ locs, h0.1 ≤ q.base) → jl la ls → jGr h0 h → vx_NoteN p l e R s m args below meth c H locs (h.2.length - h0.2.length) (hsl h - hsl h0) (jQ K h0 QR QX below s) (F0 m pc la st)
theorem jroom_x {h0 h : JIH} {lv k n : Nat} (g : jGr h0 h) (hr : hres h + (8 * k + n) ≤ jRL) : h.2.length - h0.2.length + k ≤ (jroom lv h0).cells ∧ hsl h - hsl h0 + n ≤ (jroom lv h0).slots := by
  show _ ≤ jLC - h0.2.length ∧ _ ≤ jLS - hsl h0
  have h1 := g.2.1; have h2 := g.2.2
  unfold hres at hr
  unfold jRL at hr
  unfold jLC jLS
  omega
section JR
variable {M : JM} {K : JK} {l0 : Launch} {cc : ByteArray} {own : String} {nL : Nat} {ret : Option FieldType} {nm : String} {hh : List (Nat × Nat × Nat × Nat)} {lv : Nat} {h0 : JIH} {QR : JQR} {QX : JQX} {h : JIH} {pc : Nat} {ls : List (Option Value)} {st : List Value}
theorem JN.go {E text : String} {names : List String} {nb : Nat} (X : JX M K l0 cc own nL ret nm hh lv h0 QR QX) (hl : l0.stackTraces = false) (hcls : Bundle.fit E = true) (hnames : ∀ n ∈ names, Bundle.fit n = true) (hnl9 : names.length ≤ 5) (hsoe : (E == "java/lang/StackOverflowError") = false) (hoom : (E == "java/lang/OutOfMemoryError") = false) (hat : jAt K (Bundle.messageArmAtoms E names))
    (htext : (text == notModelled) = false) (hnb : (stringBytes (stringToUtf16 text)).size ≤ nb) (hnb1 : nb ≤ 1000) (hlv : 170 ≤ lv) (hr9 : hres h + (8 * 3 + (nb + 10)) ≤ jRL) (k : ∀ (zs : List Nat) (x : Nat), zs.length ≤ 3 → zs.sum ≤ nb + 10 → JT M (hjk h zs) pc ls x E)
    (hrst : (st.map fun v => v.category).sum ≤ 8 := by first | exact Nat.le_of_ble_eq_true rfl | (simp [jcat_v]; done)) (hnl : ls.length = nL := by rfl) : JN M h pc ls st E text := by
  obtain ⟨K1, h1, R1, X1, p, l, e, R, s, m, args, below, meth, c⟩ := M
  obtain ⟨⟨rfl, rfl, rfl, rfl, rfl⟩, hx, hb, hml, hown, hr, hlk, hts, F, hW, hR, hs0, hb0, hnm, htab⟩ := X
  intro H locs la hH hlo hla hg T hT XS
  subst hR
  subst hT
  have htr : e.platform.stackTraces = false := (show e.platform.stackTraces = l.stackTraces by rw [XS.admits.platform]).trans hl
  have hrm := jroom_x (lv := lv) hg hr9
  have Y := vx_rebase XS (R' := { frames := (jroom lv h1).frames, locals := (jroom lv h1).locals, cells := 3, slots := nb + 10 }) (Nat.le_refl _) (Nat.le_refl _) hrm.1 hrm.2
  have hat' : ∀ w ∈ Bundle.messageArmAtoms E names, w.before args ((T.setVm s.vm).setFrames (.invoking m args :: below)) = true := hat _ args h hW hH
  obtain ⟨S, q, ce, st9, Z, hce, hcl', hv⟩ := vx_vmAt Y hx htr (cls := E) (names := names) (text := text) hcls hnames hsoe hoom hat' (fun x hx => nomatch hx) htext
    (by rw [Launch.admits_arrayLengthLimit XS.admits]; omega) (by rw [Launch.admits_maxHeapBytes XS.admits]; simp only [componentBytes]; omega)
    (g := F0 m pc la st) rfl (show la.size = c.maxLocals by rw [hml, ← hnl]; exact hla.1) (by show names.length + 4 < lv; omega) (by show 2 * 0 + (st.map fun v => v.category).sum + 10240 ≤ 64 * lv; omega) (by omega) (by show 0 + 3 ≤ 3; omega) (by show 0 + (_ + 4 + 6) ≤ nb + 10; omega) hlk
  obtain ⟨f1, f2⟩ := vx_frame Z.same
  have f3 : S.heap.size ≤ T.heap.size + 3 := Z.same.2.2.1
  have X5 := vx_back9 XS Y Z
  have X6 : Stand p l e (jroom lv h1) s m args below meth c S locs (h.2.length - h1.2.length + 3) (hsl h - hsl h1 + (nb + 10)) := { X5 with same := X5.same.mono (by omega) (by omega) }
  obtain ⟨zs, z1, z2, z3, z4, z5⟩ := jjunk XS X6 hH hg hs0 f1 (fun q hq => f2 q hq (fun z hz => nomatch hz)) f3 hr9
  obtain ⟨t, a1, b1⟩ := k zs q z1 z2 S.heap locs la st z3 hlo hla z4 ⟨ce, hce, hv, by rw [← hW.alike.findClass]; exact hcl'⟩ S rfl z5
  exact ⟨t, st9 t a1, b1⟩
theorem JNn.go (X : JX M K l0 cc own nL ret nm hh lv h0 QR QX) (hl : l0.stackTraces = false) (hat : jAt K (Bundle.npeArmAtoms 8)) (hlv : 170 ≤ lv) (hr9 : hres h + (8 * 1 + 8) ≤ jRL) (k : ∀ (zs : List Nat) (x : Nat), zs.length ≤ 1 → zs.sum ≤ 8 → JT M (hjk h zs) pc ls x "java/lang/NullPointerException")
    (hrst : (st.map fun v => v.category).sum ≤ 8 := by first | exact Nat.le_of_ble_eq_true rfl | (simp [jcat_v]; done)) (hnl : ls.length = nL := by rfl) : JNn M h pc ls st := by
  obtain ⟨K1, h1, R1, X1, p, l, e, R, s, m, args, below, meth, c⟩ := M
  obtain ⟨⟨rfl, rfl, rfl, rfl, rfl⟩, hx, hb, hml, hown, hr, hlk, hts, F, hW, hR, hs0, hb0, hnm, htab⟩ := X
  intro H locs la hH hlo hla hg T hT XS
  subst hR
  subst hT
  have htr : e.platform.stackTraces = false := (show e.platform.stackTraces = l.stackTraces by rw [XS.admits.platform]).trans hl
  have hrm := jroom_x (lv := lv) hg hr9
  have Y := vx_rebase XS (R' := { frames := (jroom lv h1).frames, locals := (jroom lv h1).locals, cells := 1, slots := 8 }) (Nat.le_refl _) (Nat.le_refl _) hrm.1 hrm.2
  have hat' : ∀ w ∈ Bundle.npeArmAtoms 8, w.before args ((T.setVm s.vm).setFrames (.invoking m args :: below)) = true := hat _ args h hW hH
  obtain ⟨S, q, ce, st9, Z, hce, hcl', hv⟩ := vx_npeAt Y hx htr (n := 8) hat' (fun x hx => nomatch hx)
    (g := F0 m pc la st) rfl (show la.size = c.maxLocals by rw [hml, ← hnl]; exact hla.1) (by show 7 < lv; omega) (by show 2 * 0 + (st.map fun v => v.category).sum + 10240 ≤ 64 * lv; omega) (by show 0 + 1 ≤ 1; omega) (by show 0 + 8 ≤ 8; omega) hlk
  obtain ⟨f1, f2⟩ := vx_frame Z.same
  have f3 : S.heap.size ≤ T.heap.size + 1 := Z.same.2.2.1
  have X5 := vx_back9 XS Y Z
  have X6 : Stand p l e (jroom lv h1) s m args below meth c S locs (h.2.length - h1.2.length + 1) (hsl h - hsl h1 + 8) := { X5 with same := X5.same.mono (by omega) (by omega) }
  obtain ⟨zs, z1, z2, z3, z4, z5⟩ := jjunk XS X6 hH hg hs0 f1 (fun q hq => f2 q hq (fun z hz => nomatch hz)) f3 hr9
  obtain ⟨t, a1, b1⟩ := k zs q z1 z2 S.heap locs la st z3 hlo hla z4 ⟨ce, hce, hv, by rw [← hW.alike.findClass]; exact hcl'⟩ S rfl z5
  exact ⟨t, st9 t a1, b1⟩
/-- arraylength of null -/
theorem J.alenN (X : JX M K l0 cc own nL ret nm hh lv h0 QR QX) (hd : decode cc pc = .ok (.arraylength, 1)) (k : JNn M h pc ls st) : J M h pc ls (.null :: st) := by
  obtain ⟨K1, h1, R1, X1, p, l, e, R, s, m, args, below, meth, c⟩ := M
  obtain ⟨⟨rfl, rfl, rfl, rfl, rfl⟩, hx, hb, hml, hown, hr, hlk, hts, F, hW, hR, hs0, hb0, hnm, htab⟩ := X
  intro H locs la hH hlo hla hg
  exact vx_arraylengthN hx hb hd (k H locs la hH hlo hla hg)
/-- newarray of a negative length -/
theorem J.newZ_ {at_ : ArrayType} {n : Int32} (X : JX M K l0 cc own nL ret nm hh lv h0 QR QX) (hd : decode cc pc = .ok (.newarray at_, 2)) (hn : n < 0) (k : JN M h pc ls st "java/lang/NegativeArraySizeException" (toString n)) : J M h pc ls (.int n :: st) := by
  obtain ⟨K1, h1, R1, X1, p, l, e, R, s, m, args, below, meth, c⟩ := M
  obtain ⟨⟨rfl, rfl, rfl, rfl, rfl⟩, hx, hb, hml, hown, hr, hlk, hts, F, hW, hR, hs0, hb0, hnm, htab⟩ := X
  intro H locs la hH hlo hla hg
  exact vx_newarrayZ hx hb hn hd (fun tx htx => by subst htx; exact k H locs la hH hlo hla hg)
end JR
/-- the text of a negative length -/
theorem tx_neg (n : Int32) : (stringBytes (stringToUtf16 (toString n))).size ≤ 44 := by
  have b1 := stringBytes_size_le (stringToUtf16 (toString n))
  have b2 := utf16_size_le (toString n)
  have b3 := int32_print n
  omega
theorem tx_mod {t : String} {c : Char} {r : List Char} (h : t.toList = c :: r) (hc : c ≠ '\u0000') : (t == notModelled) = false := by
  rw [beq_eq_false_iff_ne]
  intro h1
  have h2 := congrArg String.toList h1
  have h4 : notModelled.toList = '\u0000' :: " a message that is not modelled".toList := by decide
  rw [h4, h] at h2
  exact hc (List.cons.inj h2).1
theorem tx_negm {n : Int32} (hn : n < 0) : (toString n == notModelled) = false := by
  have h1 : n.toInt < 0 := by
    rw [Int32.lt_iff_toInt_lt] at hn
    simpa using hn
  have h2 : toString n = Int.repr n.toInt := rfl
  cases h : n.toInt with
  | ofNat m => rw [h] at h1; exact absurd h1 (by simp)
  | negSucc m =>
    have h3 : toString n = "-" ++ toString m.succ := by rw [h2, h]; rfl
    refine tx_mod (c := '-') (r := (toString m.succ).toList) ?_ (by decide)
    rw [h3, String.toList_append]
    rfl
