/-! System.arraycopy that throws -/
/-- a note of E over a native frame -/
def JNN (M : JM) (h : JIH) (pc : Nat) (ls : List (Option Value)) (st : List Value) (E : String) (text : Option String) : Prop := match M with
  | (K, h0, QR, QX, p, l, e, R, s, m, args, below, meth, c) => ∀ (H : Heap) (locs : List Loc) (la : Array Slot), jH K h H → (∀ q ∈ locs, h0.1 ≤ q.base) → jl la ls → jGr h0 h → ∀ T : State, T.heap = H → Stand p l e R s m args below meth c T locs (h.2.length - h0.2.length) (hsl h - hsl h0) → ∀ nf : NFrame, nf.words = 0 → nf.awaiting = false → nf.locked = none →
      ∃ t, Steps p.tables e below (T.setFrames (.throwNew E text none :: .native nf :: .java (F0 m pc la st) :: below)) t ∧ jQ K h0 QR QX below s t
section JR
variable {M : JM} {K : JK} {l0 : Launch} {cc : ByteArray} {own : String} {nL : Nat} {ret : Option FieldType} {nm : String} {hh : List (Nat × Nat × Nat × Nat)} {lv : Nat} {h0 : JIH} {QR : JQR} {QX : JQX} {h : JIH} {pc : Nat} {ls : List (Option Value)} {st : List Value}
theorem JNN.go {E text : String} {names : List String} {nb : Nat} (X : JX M K l0 cc own nL ret nm hh lv h0 QR QX) (hl : l0.stackTraces = false) (hcls : Bundle.fit E = true) (hnames : ∀ n ∈ names, Bundle.fit n = true) (hnl9 : names.length ≤ 5) (hsoe : (E == "java/lang/StackOverflowError") = false) (hoom : (E == "java/lang/OutOfMemoryError") = false) (hat : jAt K (Bundle.messageArmAtoms E names))
    (htext : (text == notModelled) = false) (hnb : (stringBytes (stringToUtf16 text)).size ≤ nb) (hnb1 : nb ≤ 1000) (hlv : 170 ≤ lv) (hr9 : hres h + (8 * 3 + (nb + 10)) ≤ jRL) (k : ∀ (zs : List Nat) (x : Nat), zs.length ≤ 3 → zs.sum ≤ nb + 10 → JT M (hjk h zs) pc ls x E)
    (hrst : (st.map fun v => v.category).sum ≤ 8 := by first | exact Nat.le_of_ble_eq_true rfl | (simp [jcat_v]; done)) (hnl : ls.length = nL := by rfl) : JNN M h pc ls st E (some text) := by
  obtain ⟨K1, h1, R1, X1, p, l, e, R, s, m, args, below, meth, c⟩ := M
  obtain ⟨⟨rfl, rfl, rfl, rfl, rfl⟩, hx, hb, hml, hown, hr, hlk, hts, F, hW, hR, hs0, hb0, hnm, htab⟩ := X
  intro H locs la hH hlo hla hg T hT XS nf hnf haw hnlk
  subst hR
  subst hT
  have htr : e.platform.stackTraces = false := (show e.platform.stackTraces = l.stackTraces by rw [XS.admits.platform]).trans hl
  have hrm := jroom_x (lv := lv) hg hr9
  have Y := vx_rebase XS (R' := { frames := (jroom lv h1).frames, locals := (jroom lv h1).locals, cells := 3, slots := nb + 10 }) (Nat.le_refl _) (Nat.le_refl _) hrm.1 hrm.2
  have hat' : ∀ w ∈ Bundle.messageArmAtoms E names, w.before args ((T.setVm s.vm).setFrames (.invoking m args :: below)) = true := hat _ args h hW hH
  obtain ⟨S, q, ce, st9, Z, hce, hcl', hv⟩ := xn_vmAt Y hx htr (cls := E) (names := names) (text := text) hcls hnames hsoe hoom hat' (fun x hx => nomatch hx) htext
    (by rw [Launch.admits_arrayLengthLimit XS.admits]; omega) (by rw [Launch.admits_maxHeapBytes XS.admits]; simp only [componentBytes]; omega)
    (g := F0 m pc la st) rfl (show la.size = c.maxLocals by rw [hml, ← hnl]; exact hla.1) hnf haw hnlk (by show names.length + 5 < lv; omega) (by show 2 * 0 + (st.map fun v => v.category).sum + 10240 ≤ 64 * lv; omega) (by omega) (by show 0 + 3 ≤ 3; omega) (by show 0 + (_ + 4 + 6) ≤ nb + 10; omega) hlk
  obtain ⟨f1, f2⟩ := vx_frame Z.same
  have f3 : S.heap.size ≤ T.heap.size + 3 := Z.same.2.2.1
  have X5 := vx_back9 XS Y Z
  have X6 : Stand p l e (jroom lv h1) s m args below meth c S locs (h.2.length - h1.2.length + 3) (hsl h - hsl h1 + (nb + 10)) := { X5 with same := X5.same.mono (by omega) (by omega) }
  obtain ⟨zs, z1, z2, z3, z4, z5⟩ := jjunk XS X6 hH hg hs0 f1 (fun q hq => f2 q hq (fun z hz => nomatch hz)) f3 hr9
  obtain ⟨t, a1, b1⟩ := k zs q z1 z2 S.heap locs la st z3 hlo hla z4 ⟨ce, hce, hv, by rw [← hW.alike.findClass]; exact hcl'⟩ S rfl z5
  exact ⟨t, st9 t a1, b1⟩
theorem JNN.goN (X : JX M K l0 cc own nL ret nm hh lv h0 QR QX) (hl : l0.stackTraces = false) (hat : jAt K (Bundle.npeArmAtoms 8)) (hlv : 170 ≤ lv) (hr9 : hres h + (8 * 1 + 8) ≤ jRL) (k : ∀ (zs : List Nat) (x : Nat), zs.length ≤ 1 → zs.sum ≤ 8 → JT M (hjk h zs) pc ls x "java/lang/NullPointerException")
    (hrst : (st.map fun v => v.category).sum ≤ 8 := by first | exact Nat.le_of_ble_eq_true rfl | (simp [jcat_v]; done)) (hnl : ls.length = nL := by rfl) : JNN M h pc ls st "java/lang/NullPointerException" none := by
  obtain ⟨K1, h1, R1, X1, p, l, e, R, s, m, args, below, meth, c⟩ := M
  obtain ⟨⟨rfl, rfl, rfl, rfl, rfl⟩, hx, hb, hml, hown, hr, hlk, hts, F, hW, hR, hs0, hb0, hnm, htab⟩ := X
  intro H locs la hH hlo hla hg T hT XS nf hnf haw hnlk
  subst hR
  subst hT
  have htr : e.platform.stackTraces = false := (show e.platform.stackTraces = l.stackTraces by rw [XS.admits.platform]).trans hl
  have hrm := jroom_x (lv := lv) hg hr9
  have Y := vx_rebase XS (R' := { frames := (jroom lv h1).frames, locals := (jroom lv h1).locals, cells := 1, slots := 8 }) (Nat.le_refl _) (Nat.le_refl _) hrm.1 hrm.2
  have hat' : ∀ w ∈ Bundle.npeArmAtoms 8, w.before args ((T.setVm s.vm).setFrames (.invoking m args :: below)) = true := hat _ args h hW hH
  obtain ⟨S, q, ce, st9, Z, hce, hcl', hv⟩ := xn_npeAt Y hx htr (n := 8) hat' (fun x hx => nomatch hx)
    (g := F0 m pc la st) rfl (show la.size = c.maxLocals by rw [hml, ← hnl]; exact hla.1) hnf haw hnlk (by show 8 < lv; omega) (by show 2 * 0 + (st.map fun v => v.category).sum + 10240 ≤ 64 * lv; omega) (by show 0 + 1 ≤ 1; omega) (by show 0 + 8 ≤ 8; omega) hlk
  obtain ⟨f1, f2⟩ := vx_frame Z.same
  have f3 : S.heap.size ≤ T.heap.size + 1 := Z.same.2.2.1
  have X5 := vx_back9 XS Y Z
  have X6 : Stand p l e (jroom lv h1) s m args below meth c S locs (h.2.length - h1.2.length + 1) (hsl h - hsl h1 + 8) := { X5 with same := X5.same.mono (by omega) (by omega) }
  obtain ⟨zs, z1, z2, z3, z4, z5⟩ := jjunk XS X6 hH hg hs0 f1 (fun q hq => f2 q hq (fun z hz => nomatch hz)) f3 hr9
  obtain ⟨t, a1, b1⟩ := k zs q z1 z2 S.heap locs la st z3 hlo hla z4 ⟨ce, hce, hv, by rw [← hW.alike.findClass]; exact hcl'⟩ S rfl z5
  exact ⟨t, st9 t a1, b1⟩
/-- arraycopy throws E: what its entry does at any state that holds the heap -/
theorem J.copyT {idx : Nat} {v0 v1 : Value} {sp dp n : Int32} {E : String} {text : Option String} (X : JX M K l0 cc own nL ret nm hh lv h0 QR QX) (hd : decode cc pc = .ok (.invokestatic idx, 3)) (hl : Cond.methodLink own idx arraycopyName ∈ lw_all) (hv0 : jref v0 = true) (hv1 : jref v1 = true)
    (hsem : ∀ (U : State) (e : Env) (d : Bool) (acts : List Action) (Ec : CtlPost), K.2.2.WarmedH U.vm → jP K.1 jcl h U.heap → (∀ acts', Ec (.throwNew E text) acts' U) → wp (Native.java_lang_System.arraycopy.sem #[v0, .int sp, v1, .int dp, .int n]) (fun _ _ _ _ => False) Ec e d acts U)
    (hlv : 1 ≤ lv) (k : JNN M h pc ls st E text) (hrst : (st.map fun v => v.category).sum ≤ 8 := by first | exact Nat.le_of_ble_eq_true rfl | (simp [jcat_v]; done)) (hnl : ls.length = nL := by rfl) : J M h pc ls (.int n :: .int dp :: v1 :: .int sp :: v0 :: st) := by
  obtain ⟨K1, h1, R1, X1, p, l, e, R, s, m, args, below, meth, c⟩ := M
  obtain ⟨⟨rfl, rfl, rfl, rfl, rfl⟩, hx, hb, hml, hown, hr, hlk, hts, F, hW, hR, hs0, hb0, hnm, htab⟩ := X
  intro H locs la hH hlo hla hg T hT XS
  subst hR
  obtain ⟨r, kS, methS, hnS, hmS, hkS, N⟩ := NativeOf.of_static (hts _ q826) (hts _ q825) (ps := [.object "java/lang/Object", .int, .object "java/lang/Object", .int, .int]) (ret := none) (by decide +kernel)
  have hinitS : kS.init = .initialized := Cond.initialized_spec (findClass_of_methodNamed hnS) hkS (hts _ q100)
  obtain ⟨vm', X', step⟩ := XS.invokestatic hx hown (hts _ hl) hnS hmS N.static hkS hinitS (by decide) (g := F0 m pc la (.int n :: .int dp :: v1 :: .int sp :: v0 :: st)) rfl (argsL := [v0, .int sp, v1, .int dp, .int n]) (rest := st) (by rw [N.sig]; rfl) rfl (by rw [hb]; exact hd)
  obtain ⟨kS', N'⟩ := N.alike X'.warmed.alike
  have hc0 : v0 = .null ∨ ∃ a, v0 = .ref a := by cases v0 <;> first | exact Or.inl rfl | exact Or.inr ⟨_, rfl⟩ | cases hv0
  have hc1 : v1 = .null ∨ ∃ a, v1 = .ref a := by cases v1 <;> first | exact Or.inl rfl | exact Or.inr ⟨_, rfl⟩ | cases hv1
  have hseen : seenByNative methS #[v0, .int sp, v1, .int dp, .int n] = #[v0, .int sp, v1, .int dp, .int n] := by
    rcases hc0 with rfl | ⟨a0, rfl⟩ <;> rcases hc1 with rfl | ⟨a1, rfl⟩ <;> simp [seenByNative, N.static, N.sig, narrow]
  have hopw : operandWords [v0, .int sp, v1, .int dp, .int n] = 5 := by
    rcases hc0 with rfl | ⟨a0, rfl⟩ <;> rcases hc1 with rfl | ⟨a1, rfl⟩ <;> rfl
  have hsize : (F0 m pc la st).locals.size = c.maxLocals := show la.size = c.maxLocals by rw [hml, ← hnl]; exact hla.1
  have hroom := X'.notFull (g := F0 m pc la st) hsize (vars := nativeFrameWords "java/lang/System" "arraycopy" 5) hlv (by show 2 * 0 + (st.map fun v => v.category).sum + (nativeFrameWords "java/lang/System" "arraycopy" 5 + 11) ≤ 64 * lv; have e9 : nativeFrameWords "java/lang/System" "arraycopy" 5 = 7 := rfl; rw [e9]; omega)
  obtain ⟨t, a1, b1⟩ := k H locs la hH hlo hla hg (T.setVm vm') hT X' { method := r, args := seenByNative methS #[v0, .int sp, v1, .int dp, .int n], locked := none } rfl rfl rfl
  refine ⟨t, ?_, b1⟩
  refine step t fun acts => ?_
  obtain ⟨g₀, hfr⟩ := X'.frames_eq
  have hfx : ((T.setVm vm').setTop (F0 m pc la st)).pushFrame (.native { method := r, args := seenByNative methS #[v0, .int sp, v1, .int dp, .int n], locked := none }) = (T.setVm vm').setFrames (.native { method := r, args := seenByNative methS #[v0, .int sp, v1, .int dp, .int n], locked := none } :: .java (F0 m pc la st) :: below) := by
    rw [State.pushFrame, State.frames_setTop _ hfr, State.setTop_of_frames _ hfr, State.setFrames_setFrames]
  refine Steps.nativeThrowsNote (row := arraycopyRow) (cls := E) (msg := text) (T := fun u => u) (g := F0 m pc la st) X'.here acts N'.cls N'.meth N'.boot N'.native N'.noCode N'.noLock (by rw [N'.className, N'.name, N'.desc]; exact arraycopy_row p) ?_ ?_ ?_
  · rw [N'.className, N'.name]
    show e.platform.stackFull _ _ (nativeFrameWords "java/lang/System" "arraycopy" (operandWords [v0, .int sp, v1, .int dp, .int n])) = false
    rw [hopw]; exact hroom
  · intro Ec hE
    rw [arraycopyRow_sem, hseen]
    refine hsem _ e false [] Ec ?_ ?_ (fun acts' => ?_)
    · exact State.WarmedH.trans hW X'.warmed
    · show jP K1.1 jcl h T.heap
      rw [hT]; exact hH.2.2.1
    · have := hE acts'
      rw [hseen] at this
      exact this
  · show Steps p.tables e below ((((T.setVm vm').setTop (F0 m pc la st)).pushFrame (.native { method := r, args := seenByNative methS #[v0, .int sp, v1, .int dp, .int n], locked := none })).pushFrame (.throwNew E text none)) t
    rw [hfx]
    have hcur : (T.setVm vm').cur < (T.setVm vm').threads.size := State.cur_lt_of_frames hfr
    have e2 : ((T.setVm vm').setFrames (.native { method := r, args := seenByNative methS #[v0, .int sp, v1, .int dp, .int n], locked := none } :: .java (F0 m pc la st) :: below)).pushFrame (.throwNew E text none) = (T.setVm vm').setFrames (.throwNew E text none :: .native { method := r, args := seenByNative methS #[v0, .int sp, v1, .int dp, .int n], locked := none } :: .java (F0 m pc la st) :: below) := by
      rw [State.pushFrame, State.frames_setFrames _ hcur, State.setFrames_setFrames]
    rw [e2]
    exact a1
end JR
/-! what the entry throws -/
def tAse (ty tz : FieldType) : String := toString "arraycopy: type mismatch: can not copy " ++ toString (Native.java_lang_System.arraycopy.kindName ty) ++ toString "[] into " ++ toString (Native.java_lang_System.arraycopy.kindName tz) ++ toString "[]"
def tArr (ty : FieldType) (z : Nat) : String := toString (Native.java_lang_System.arraycopy.kindName ty) ++ toString "[" ++ toString z ++ toString "]"
theorem cp_null {K : JK} {h : JIH} {v0 v1 : Value} {sp dp n : Int32} (hv0 : jref v0 = true) (hv1 : jref v1 = true) (hn : v0 = .null ∨ v1 = .null) (U : State) (e : Env) (d : Bool) (acts : List Action) (Ec : CtlPost) (_ : K.2.2.WarmedH U.vm) (_ : jP K.1 jcl h U.heap) (hE : ∀ acts', Ec (.throwNew "java/lang/NullPointerException" none) acts' U) :
    wp (Native.java_lang_System.arraycopy.sem #[v0, .int sp, v1, .int dp, .int n]) (fun _ _ _ _ => False) Ec e d acts U := by
  cases v0 with
  | null => exact W.arraycopy_null1 sp dp n v1 (hE _)
  | ref a =>
    cases v1 with
    | null => exact W.arraycopy_null2 a sp dp n (hE _)
    | ref b => rcases hn with h | h <;> cases h
    | _ => cases hv1
  | _ => cases hv0
theorem cp_cell {K : JK} (F : JF K) {h : JIH} {a t : Nat} {x : vp_A} {ty : FieldType} {U : State} (hW : K.2.2.WarmedH U.vm) (hP : jP K.1 jcl h U.heap) (ht : (jtys K)[t]? = some (K.2.1 t, ty)) (hf : hget h a = some (.inl (K.2.1 t, x))) : ∃ (cs : Cell) (ks : Class) (comp : ClassId), U.heap[a]? = some cs ∧ (∀ k, cs.vm ≠ .statics k) ∧ U.vm.classes[cs.cls]? = some ks ∧ ks.kind = .array comp ty ∧ cs.slots.size = x.1 := by
  have hc : U.heap[a]? = some (vp_cell (K.2.1 t) x) := hP a _ hf
  obtain ⟨n, y⟩ := x
  have key : ∀ z : Nat → Value, vp_cell (K.2.1 t) (n, y) = arrV (K.2.1 t) n z → ∃ (cs : Cell) (ks : Class) (comp : ClassId), U.heap[a]? = some cs ∧ (∀ k, cs.vm ≠ .statics k) ∧ U.vm.classes[cs.cls]? = some ks ∧ ks.kind = .array comp ty ∧ cs.slots.size = n := by
    intro z hz
    obtain ⟨-, k0, hk0, cm0, hkk0⟩ := ((jK F hW).2 t _ ht).1 n z
    rw [hz] at hc
    exact ⟨_, k0, cm0, hc, (fun _ h => by cases h), hk0, hkk0, arrV_size _ _ _⟩
  obtain f | f | f | f | f := y
  · exact key (fun j => .int (f j)) rfl
  · exact key (fun j => .long (f j)) rfl
  · exact key (fun j => .float (f j)) rfl
  · exact key (fun j => .double (f j)) rfl
  · exact key (fun j => va_rf (f j)) rfl
theorem cp_types {K : JK} (F : JF K) {h : JIH} {a b t u : Nat} {x y : vp_A} {ty tz : FieldType} {sp dp n : Int32} (ht : (jtys K)[t]? = some (K.2.1 t, ty)) (hu : (jtys K)[u]? = some (K.2.1 u, tz)) (hf : hget h a = some (.inl (K.2.1 t, x))) (hg : hget h b = some (.inl (K.2.1 u, y))) (hty : ((refKind ty != refKind tz) || (!refKind ty && ty != tz)) = true) (U : State) (e : Env) (d : Bool) (acts : List Action) (Ec : CtlPost) (hW : K.2.2.WarmedH U.vm) (hP : jP K.1 jcl h U.heap)
    (hE : ∀ acts', Ec (.throwNew "java/lang/ArrayStoreException" (some (tAse ty tz))) acts' U) :
    wp (Native.java_lang_System.arraycopy.sem #[.ref a, .int sp, .ref b, .int dp, .int n]) (fun _ _ _ _ => False) Ec e d acts U := by
  obtain ⟨cs, ks, c1, s1, s2, s3, s4, -⟩ := cp_cell F hW hP ht hf
  obtain ⟨cd, kd, c2, d1, d2, d3, d4, -⟩ := cp_cell F hW hP hu hg
  exact W.arraycopy_types s1 d1 s2 d2 s3 d3 s4 d4 hty (hE _)
theorem cp_bounds {K : JK} (F : JF K) {h : JIH} {a b t : Nat} {x y : vp_A} {ty : FieldType} {sp dp n : Int32} {what : String} (ht : (jtys K)[t]? = some (K.2.1 t, ty)) (hf : hget h a = some (.inl (K.2.1 t, x))) (hg : hget h b = some (.inl (K.2.1 t, y))) (hr : refKind ty = false) (hw : copyFault ty ty x.1 y.1 sp dp n = some what) (U : State) (e : Env) (d : Bool) (acts : List Action) (Ec : CtlPost) (hW : K.2.2.WarmedH U.vm) (hP : jP K.1 jcl h U.heap)
    (hE : ∀ acts', Ec (.throwNew "java/lang/ArrayIndexOutOfBoundsException" (some ("arraycopy: " ++ what))) acts' U) :
    wp (Native.java_lang_System.arraycopy.sem #[.ref a, .int sp, .ref b, .int dp, .int n]) (fun _ _ _ _ => False) Ec e d acts U := by
  obtain ⟨cs, ks, c1, s1, s2, s3, s4, s5⟩ := cp_cell F hW hP ht hf
  obtain ⟨cd, kd, c2, d1, d2, d3, d4, d5⟩ := cp_cell F hW hP ht hg
  refine W.arraycopy_bounds s1 d1 s2 d2 s3 d3 s4 d4 (by simp [hr]) (what := what) ?_ (hE _)
  rw [s5, d5]; exact hw
/-! the texts -/
theorem int_print (i : Int) (h1 : i < 2 ^ 33) (h2 : -(2 ^ 33) ≤ i) : (toString i).toList.length ≤ 11 := by
  show (Int.repr i).toList.length ≤ 11
  cases h : i with
  | ofNat m =>
    rw [h] at h1
    have h1' : (m : Int) < 2 ^ 33 := h1
    have := nat_print (n := m) (by omega)
    show (toString m).toList.length ≤ 11
    omega
  | negSucc m =>
    rw [h] at h2
    have h2' : -(2 : Int) ^ 33 ≤ -((m : Int) + 1) := by simpa [Int.negSucc_eq] using h2
    have := nat_print (n := m.succ) (by omega)
    show ("-" ++ toString m.succ).toList.length ≤ 11
    rw [String.toList_append, List.length_append]
    have h0 : "-".toList.length = 1 := by decide
    omega
theorem kn_len (ty : FieldType) : (Native.java_lang_System.arraycopy.kindName ty).toList.length ≤ 12 := by
  cases ty <;> first | decide | (show ("object array" : String).toList.length ≤ 12; decide)
theorem tx_ase (ty tz : FieldType) : ((tAse ty tz) == notModelled) = false ∧ (stringBytes (stringToUtf16 (tAse ty tz))).size ≤ 400 := by
  generalize ht : tAse ty tz = tx
  have ht : toString "arraycopy: type mismatch: can not copy " ++ toString (Native.java_lang_System.arraycopy.kindName ty) ++ toString "[] into " ++ toString (Native.java_lang_System.arraycopy.kindName tz) ++ toString "[]" = tx := ht
  refine ⟨?_, ?_⟩
  · refine tx_mod (c := 'a') (r := ("rraycopy: type mismatch: can not copy ".toList ++ (toString (Native.java_lang_System.arraycopy.kindName ty)).toList ++ (toString "[] into ").toList ++ (toString (Native.java_lang_System.arraycopy.kindName tz)).toList ++ (toString "[]").toList)) ?_ (by decide)
    rw [← ht]
    simp only [String.toList_append]
    rfl
  · have b1 := stringBytes_size_le (stringToUtf16 tx)
    have b2 := utf16_size_le tx
    have b3 : tx.toList.length ≤ 100 := by
      rw [← ht]
      simp only [String.toList_append, List.length_append]
      have e1 : (toString "arraycopy: type mismatch: can not copy ").toList.length ≤ 45 := by decide
      have e2 : (toString (Native.java_lang_System.arraycopy.kindName ty)).toList.length ≤ 12 := kn_len ty
      have e3 : (toString (Native.java_lang_System.arraycopy.kindName tz)).toList.length ≤ 12 := kn_len tz
      have e4 : (toString "[] into ").toList.length = 8 := by decide
      have e5 : (toString "[]").toList.length = 2 := by decide
      omega
    omega
theorem tx_aio {ty : FieldType} {za zb : Nat} {sp dp n : Int32} {what : String} (ha : za ≤ 60) (hb : zb ≤ 60) (hw : copyFault ty ty za zb sp dp n = some what) : (("arraycopy: " ++ what) == notModelled) = false ∧ (stringBytes (stringToUtf16 ("arraycopy: " ++ what))).size ≤ 400 := by
  have arr : ∀ z : Nat, z ≤ 60 → (toString (tArr ty z)).toList.length ≤ 24 := by
    intro z hz
    show (toString (Native.java_lang_System.arraycopy.kindName ty) ++ toString "[" ++ toString z ++ toString "]").toList.length ≤ 24
    simp only [String.toList_append, List.length_append]
    have e2 : (toString (Native.java_lang_System.arraycopy.kindName ty)).toList.length ≤ 12 := kn_len ty
    have e3 := nat_print (n := z) (by omega)
    have e4 : (toString "[").toList.length = 1 := by decide
    have e5 : (toString "]").toList.length = 1 := by decide
    omega
  have big : ∀ x y : Int32, (toString (x.toInt + y.toInt)).toList.length ≤ 11 := by
    intro x y
    have a1 := Int32.toInt_lt x
    have a2 := Int32.le_toInt x
    have b1 := Int32.toInt_lt y
    have b2 := Int32.le_toInt y
    exact int_print _ (by omega) (by omega)
  have e9 : (toString " out of bounds for ").toList.length = 19 := by decide
  have hlen : what.toList.length ≤ 80 := by
    unfold copyFault at hw
    split at hw
    · cases Option.some.inj hw
      show (toString "source index " ++ toString sp ++ toString " out of bounds for " ++ toString (tArr ty za)).toList.length ≤ 80
      simp only [String.toList_append, List.length_append]
      have e1 : (toString "source index ").toList.length = 13 := by decide
      have e2 := int32_print sp
      have e3 := arr za ha
      omega
    split at hw
    · cases Option.some.inj hw
      show (toString "destination index " ++ toString dp ++ toString " out of bounds for " ++ toString (tArr ty zb)).toList.length ≤ 80
      simp only [String.toList_append, List.length_append]
      have e1 : (toString "destination index ").toList.length = 18 := by decide
      have e2 := int32_print dp
      have e3 := arr zb hb
      omega
    split at hw
    · cases Option.some.inj hw
      show (toString "length " ++ toString n ++ toString " is negative").toList.length ≤ 80
      simp only [String.toList_append, List.length_append]
      have e1 : (toString "length ").toList.length = 7 := by decide
      have e2 := int32_print n
      have e3 : (toString " is negative").toList.length = 12 := by decide
      omega
    split at hw
    · cases Option.some.inj hw
      show (toString "last source index " ++ toString (sp.toInt + n.toInt) ++ toString " out of bounds for " ++ toString (tArr ty za)).toList.length ≤ 80
      simp only [String.toList_append, List.length_append]
      have e1 : (toString "last source index ").toList.length = 18 := by decide
      have e2 := big sp n
      have e3 := arr za ha
      omega
    split at hw
    · cases Option.some.inj hw
      show (toString "last destination index " ++ toString (dp.toInt + n.toInt) ++ toString " out of bounds for " ++ toString (tArr ty zb)).toList.length ≤ 80
      simp only [String.toList_append, List.length_append]
      have e1 : (toString "last destination index ").toList.length = 23 := by decide
      have e2 := big dp n
      have e3 := arr zb hb
      omega
    · cases hw
  refine ⟨?_, ?_⟩
  · refine tx_mod (c := 'a') (r := ("rraycopy: ".toList ++ what.toList)) ?_ (by decide)
    rw [String.toList_append]
    rfl
  · have b1 := stringBytes_size_le (stringToUtf16 ("arraycopy: " ++ what))
    have b2 := utf16_size_le ("arraycopy: " ++ what)
    rw [String.toList_append, List.length_append] at b2
    have e1 : ("arraycopy: " : String).toList.length = 11 := by decide
    omega
