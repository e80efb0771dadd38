/-! THE J LAYER: contracts and walks over the ideal heap -/
def jRL : Nat := 4915720
def jLC : Nat := 614465
def jLS : Nat := 7228133
/-- layout of the classes, class numbers of the array types, the state at the law's entry -/
abbrev JK : Type := va_G × (Nat → ClassId) × State
def jtys (K : JK) : List (ClassId × FieldType) := jtysD K.2.1
/-- what is known at the law's entry -/
def JF (K : JK) : Prop := va_K K.1 jcl (jtys K) K.2.2 ∧ (∃ a0 : Array Value, (∀ w ∈ lw_tbl, w.before a0 K.2.2 = true) ∧ ((Jvm.Cond.and given_1 narrow_1).before a0 K.2.2 = true) ∧ modulesRight_1 K.2.2 = true)
/-- the real heap H is the ideal heap h over the old one -/
def jH (K : JK) (h : JIH) (H : Heap) : Prop := h.1 = K.2.2.heap.size ∧ H.size = hnew h ∧ jP K.1 jcl h H ∧ (∀ q : Nat, q < h.1 → H[q]? = K.2.2.heap[q]?) ∧ hres h ≤ jRL
def jWD (K : JK) (h : JIH) (U : State) : Prop := K.2.2.WarmedH U.vm ∧ jH K h U.heap
def jroom (lv : Nat) (h : JIH) : Room := { frames := lv, cells := jLC - h.2.length, slots := jLS - hsl h, locals := 64 * lv }
abbrev JQR : Type := Option Value → JIH → Prop
abbrev JQX : Type := Nat → String → JIH → Prop
def jNo : JQX := fun _ _ _ => False
/-- x is an exception of the class E -/
def jEx (K : JK) (E : String) (x : Nat) (H : Heap) : Prop := ∃ ce : Cell, H[x]? = some ce ∧ ce.vm = .none ∧ K.2.2.vm.findClass E = some ce.cls
def jGr (h h' : JIH) : Prop := h.1 = h'.1 ∧ h.2.length ≤ h'.2.length ∧ hsl h ≤ hsl h'
theorem jGr.rf (h : JIH) : jGr h h := ⟨rfl, Nat.le_refl _, Nat.le_refl _⟩
theorem jGr.tr {a b c : JIH} (h1 : jGr a b) (h2 : jGr b c) : jGr a c := ⟨h1.1.trans h2.1, Nat.le_trans h1.2.1 h2.2.1, Nat.le_trans h1.2.2 h2.2.2⟩
def jPost (K : JK) (h0 : JIH) (QR : JQR) (QX : JQX) (st : State) (o : Outcome) (t : State) : Prop :=
  (∃ (r : Option Value) (h' : JIH) (L : List Loc), o = .returned r ∧ QR r h' ∧ jH K h' t.heap ∧ jGr h0 h' ∧ FrameEnd st o t L (h'.2.length - h0.2.length) (hsl h' - hsl h0) ∧ ∀ q ∈ L, h0.1 ≤ q.base) ∨
  (∃ (x : Nat) (h' : JIH) (L : List Loc) (E : String), o = .threw x ∧ QX x E h' ∧ jEx K E x t.heap ∧ jH K h' t.heap ∧ jGr h0 h' ∧ st.WarmedH t.vm ∧ st.sameButNew ({ t with vm := st.vm } : State) L (h'.2.length - h0.2.length) (hsl h' - hsl h0) ∧ ∀ q ∈ L, h0.1 ≤ q.base)
/-- THE CONTRACT: method y called with av in the heap h0 -/
def Ct (K : JK) (l : Launch) (y : MethodName) (ws : List Cond) (lv : Nat) (av : List Value) (h0 : JIH) (QR : JQR) (QX : JQX) : Prop :=
  MetFree l y (headSpec ws (jroom lv h0)) (fun v U => v = av.toArray ∧ jWD K h0 U) (fun _ _ _ _ _ => True) (fun _ st o t => jPost K h0 QR QX st o t)
theorem Ct.weaken {K : JK} {l : Launch} {y : MethodName} {ws : List Cond} {lv : Nat} {av : List Value} {h0 : JIH} {QR QR' : JQR} {QX QX' : JQX} (h : Ct K l y ws lv av h0 QR QX) (hr : ∀ r h', QR r h' → QR' r h') (hx : ∀ x E h', QX x E h' → QX' x E h') : Ct K l y ws lv av h0 QR' QX' := by
  intro p e ha hc hk s m args below hf hap hp ht
  obtain ⟨n, o, h1, h2, h3, h4⟩ := h p e ha hc hk s m args below hf hap hp ht
  refine ⟨n, o, h1, h2, h3, ?_⟩
  rcases h4 with ⟨r, h', L, e1, e2, e3⟩ | ⟨x, h', L, E, e1, e2, e3⟩
  · exact Or.inl ⟨r, h', L, e1, hr _ _ e2, e3⟩
  · exact Or.inr ⟨x, h', L, E, e1, hx _ _ _ e2, e3⟩
/-- all that is fixed in a method's walk -/
abbrev JM : Type := JK × JIH × JQR × JQX × Program × Launch × Env × Room × State × MethodId × Array Value × List Frame × Method × Code
def jl (la : Array Slot) (ls : List (Option Value)) : Prop := la.size = ls.length ∧ lv_wf la ∧ ∀ (i : Nat) (v : Value), ls[i]? = some (some v) → la[i]? = some (.val v)
def jQ (K : JK) (h0 : JIH) (QR : JQR) (QX : JQX) (below : List Frame) (s : State) : State → Prop := fun t => ∃ o, t.status = .running ∧ Ended t below o ∧ jPost K h0 QR QX s o t
/-- the walk stands at pc, with locals ls, stack st, heap h -/
def J (M : JM) (h : JIH) (pc : Nat) (ls : List (Option Value)) (st : List Value) : Prop := match M with
  | (K, h0, QR, QX, p, l, e, R, s, m, args, below, meth, c) => ∀ (H : Heap) (locs : List Loc) (la : Array Slot), jH K h H → (∀ q ∈ locs, h0.1 ≤ q.base) → jl la ls → jGr h0 h → W p l e R s m args below meth c H locs (h.2.length - h0.2.length) (hsl h - hsl h0) (jQ K h0 QR QX below s) (F0 m pc la st)
/-- the exception x is thrown there -/
def JT (M : JM) (h : JIH) (pc : Nat) (ls : List (Option Value)) (x : Nat) (E : String) : Prop := match M with
  | (K, h0, QR, QX, p, l, e, R, s, m, args, below, meth, c) => ∀ (H : Heap) (locs : List Loc) (la : Array Slot) (st : List Value), jH K h H → (∀ q ∈ locs, h0.1 ≤ q.base) → jl la ls → jGr h0 h → jEx K E x H → vx_W p l e R s m args below meth c H locs (h.2.length - h0.2.length) (hsl h - hsl h0) (jQ K h0 QR QX below s) (F0 m pc la st) x
/-- what a walk stands on: code, class, number of locals, answer's type, name, handlers, level, the heap at its start, its end -/
def JX (M : JM) (K : JK) (l0 : Launch) (cc : ByteArray) (own : String) (nL : Nat) (ret : Option FieldType) (nm : String) (hh : List (Nat × Nat × Nat × Nat)) (lv : Nat) (h00 : JIH) (QR0 : JQR) (QX0 : JQX) : Prop := match M with
  | (K1, h0, QR, QX, p, l, e, R, s, m, args, below, meth, c) => (K1 = K ∧ h0 = h00 ∧ QR = QR0 ∧ QX = QX0 ∧ l = l0) ∧ p.tables.exec = Jvm.exec ∧ c.code = cc ∧ c.maxLocals = nL ∧ s.vm.findClass own = some m.cls ∧ meth.sig.returnType = ret ∧ meth.locks = false ∧ (∀ w ∈ lw_all, w.before args s = true) ∧ JF K1 ∧ K1.2.2.WarmedH s.vm ∧ R = jroom lv h0 ∧ s.heap.size = hnew h0 ∧ h0.1 = K1.2.2.heap.size ∧ meth.name = nm ∧ c.exceptionTable.toList = tableOf hh
/-- a word of the tables at any later state -/
theorem jgood {K : JK} (F : JF K) {U : State} (hW : K.2.2.WarmedH U.vm) {w : Cond} (hw : w ∈ lw_all) (a : Array Value) : w.before a U = true := by
  obtain ⟨-, a0, h, -⟩ := F
  exact word_at hW (lw_self w hw).2 (h w (lw_all_tbl hw))
theorem jK {K : JK} (F : JF K) {U : State} (hW : K.2.2.WarmedH U.vm) : va_K K.1 jcl (jtys K) U := va_K.moved hW.alike F.1
/-- locals at a method's start -/
def jsl (av : List Value) : List (Option Value) := av.flatMap fun v => if v.category = 2 then [some v, none] else [some v]
def jent (av : List Value) (n : Nat) : List (Option Value) := jsl av ++ List.replicate (n - (jsl av).length) none
theorem jsl_len (av : List Value) : (jsl av).length = (lg_sl av).length := by
  induction av with
  | nil => rfl
  | cons v vs ih =>
    show (List.flatMap _ (v :: vs)).length = (List.flatMap _ (v :: vs)).length
    rw [List.flatMap_cons, List.flatMap_cons, List.length_append, List.length_append]
    have ih : (List.flatMap (fun v : Value => if v.category = 2 then [some v, none] else [some v]) vs).length = (List.flatMap (fun v : Value => if v.category = 2 then [Slot.val v, .second] else [.val v]) vs).length := ih
    rw [ih]
    split <;> rfl
theorem jsl_mem (av : List Value) : ∀ (i0 i : Nat) (v : Value), (jsl av)[i]? = some (some v) → (i0 + i, v) ∈ lv_args i0 av := by
  induction av with
  | nil => intro i0 i v h; simp [jsl] at h
  | cons w vs ih =>
    intro i0 i v h
    have hj : jsl (w :: vs) = (if w.category = 2 then [some w, none] else [some w]) ++ jsl vs := List.flatMap_cons
    rw [hj] at h
    show _ ∈ (i0, w) :: lv_args (if w.category = 2 then i0 + 2 else i0 + 1) vs
    by_cases hc : w.category = 2
    · rw [if_pos hc] at h ⊢
      match i, h with
      | 0, h =>
        have h : w = v := by simpa using h
        subst h; exact List.mem_cons_self
      | 1, h => simp at h
      | i + 2, h =>
        have h : (jsl vs)[i]? = some (some v) := by simpa using h
        have h1 := ih (i0 + 2) i v h
        rw [show i0 + 2 + i = i0 + (i + 2) by omega] at h1
        exact List.mem_cons_of_mem _ h1
    · rw [if_neg hc] at h ⊢
      match i, h with
      | 0, h =>
        have h : w = v := by simpa using h
        subst h; exact List.mem_cons_self
      | i + 1, h =>
        have h : (jsl vs)[i]? = some (some v) := by simpa using h
        have h1 := ih (i0 + 1) i v h
        rw [show i0 + 1 + i = i0 + (i + 1) by omega] at h1
        exact List.mem_cons_of_mem _ h1
theorem jent_ok (av : List Value) {n : Nat} (hn : (jsl av).length ≤ n) : jl ((lg_sl av ++ List.replicate (n - (lg_sl av).length) Slot.unset).toArray) (jent av n) := by
  have h := lv_entry av (n := n) (by rw [← jsl_len]; exact hn)
  refine ⟨by rw [h.1]; unfold jent; simp; omega, h.2.1, fun i v hi => ?_⟩
  unfold jent at hi
  by_cases hlt : i < (jsl av).length
  · rw [List.getElem?_append_left hlt] at hi
    have h1 := jsl_mem av 0 i v hi
    rw [Nat.zero_add] at h1
    exact h.2.2 _ h1
  · rw [List.getElem?_append_right (by omega)] at hi
    have := List.mem_of_getElem? hi
    have := List.eq_of_mem_replicate this
    cases this
/-- A METHOD WITHOUT HANDLERS, from its entry -/
theorem Ct.start {K : JK} {l : Launch} {y : MethodName} {cc : ByteArray} {maxL : Nat} {ret : Option FieldType} {lv : Nat} {av : List Value} {h0 : JIH} {QR : JQR} {QX : JQX} (F : JF K) (hy : plainName y.cls = true) (hn : (jsl av).length ≤ maxL) {ls : List (Option Value)} (hls : jent av maxL = ls)
    (body : ∀ M : JM, JX M K l cc y.cls maxL ret y.name [] lv h0 QR QX → J M h0 0 ls []) : Ct K l y (ws_ y cc maxL ret) lv av h0 QR QX := by
  subst hls
  refine MetFree.of_bodyS (code := cc) (maxLocals := maxL) (ret := ret) hy ?_ ?_
  · intro args s m h hn
    obtain ⟨meth, c, h1, h2, h3, h4, h5, h6, -, -⟩ := Cond.code_spec hn (atoms_spec (ws := ws_ y cc maxL ret) h _ List.mem_cons_self)
    exact ⟨meth, c, h1, h2, h3, h4, h5, h6⟩
  · intro p e s m args below meth c s₁ B hml hP _
    obtain ⟨rfl, hWD⟩ := hP
    have hh0 : s₁.heap = s.heap := by rw [B.state]; rfl
    have hts := atoms_spec (ws := ws_ y cc maxL ret) B.pre
    have ht : c.exceptionTable.toList = tableOf [] := by
      obtain ⟨meth9, c9, h1, h2, -, -, -, -, h7, -⟩ := Cond.code_spec B.named (hts _ List.mem_cons_self)
      cases Option.some.inj (h1.symm.trans B.method)
      cases Option.some.inj (h2.symm.trans (Stand.of_body B).code)
      rw [Array.isEmpty_iff.mp h7]
      rfl
    have hJ := body (K, h0, QR, QX, p, l, e, jroom lv h0, s, m, av.toArray, below, meth, c) ⟨⟨rfl, rfl, rfl, rfl, rfl⟩, B.exec, B.bytes, hml, findClass_of_methodNamed B.named, B.returns, B.notSynchronized, fun w h => hts w (List.mem_cons_of_mem _ h), F, hWD.1, rfl, hWD.2.2.1, hWD.2.1, (name_of_methodNamed B.named B.method).1, ht⟩
    have hw := hJ s.heap [] _ hWD.2 (fun q h => by cases h) (jent_ok av hn) (jGr.rf h0)
    rw [Nat.sub_self, Nat.sub_self, ← lg_entry_eq] at hw
    obtain ⟨t, a1, o, b1, b2, b3⟩ := hw s₁ hh0 (Stand.of_body B)
    exact ⟨t, o, a1, b1, b2, b3⟩
/-- A METHOD WITH HANDLERS, from its entry -/
theorem Ct.startH {K : JK} {l : Launch} {y : MethodName} {cc : ByteArray} {maxL : Nat} {ret : Option FieldType} {hh : List (Nat × Nat × Nat × Nat)} {lv : Nat} {av : List Value} {h0 : JIH} {QR : JQR} {QX : JQX} (F : JF K) (hy : plainName y.cls = true) (hn : (jsl av).length ≤ maxL) {ls : List (Option Value)} (hls : jent av maxL = ls)
    (body : ∀ M : JM, JX M K l cc y.cls maxL ret y.name hh lv h0 QR QX → J M h0 0 ls []) : Ct K l y (wsW_ y cc maxL ret hh) lv av h0 QR QX := by
  subst hls
  refine MetFree.of_bodyS (code := cc) (maxLocals := maxL) (ret := ret) hy ?_ ?_
  · intro args s m h hn
    obtain ⟨m9, meth, c, hn9, h1, h2, h3, h4, -, h5, h6, -⟩ := Cond.codeWith_spec (atoms_spec (ws := wsW_ y cc maxL ret hh) h _ List.mem_cons_self)
    cases hn.symm.trans hn9
    exact ⟨meth, c, h1, h2, h3, h4, h5, h6⟩
  · intro p e s m args below meth c s₁ B hml hP _
    obtain ⟨rfl, hWD⟩ := hP
    have hh0 : s₁.heap = s.heap := by rw [B.state]; rfl
    have hts := atoms_spec (ws := wsW_ y cc maxL ret hh) B.pre
    have ht : c.exceptionTable.toList = tableOf hh := vx_table (x := y) B (hts _ List.mem_cons_self)
    have hJ := body (K, h0, QR, QX, p, l, e, jroom lv h0, s, m, av.toArray, below, meth, c) ⟨⟨rfl, rfl, rfl, rfl, rfl⟩, B.exec, B.bytes, hml, findClass_of_methodNamed B.named, B.returns, B.notSynchronized, fun w h => hts w (List.mem_cons_of_mem _ h), F, hWD.1, rfl, hWD.2.2.1, hWD.2.1, (name_of_methodNamed B.named B.method).1, ht⟩
    have hw := hJ s.heap [] _ hWD.2 (fun q h => by cases h) (jent_ok av hn) (jGr.rf h0)
    rw [Nat.sub_self, Nat.sub_self, ← lg_entry_eq] at hw
    obtain ⟨t, a1, o, b1, b2, b3⟩ := hw s₁ hh0 (Stand.of_body B)
    exact ⟨t, o, a1, b1, b2, b3⟩
def jPre (K : JK) (R : Room) (av : List Value) (h : JIH) : Pt → Array Value → Prop := fun A a => a = av.toArray ∧ jWD K h A.U ∧ A.cells + (jLC - h.2.length) ≤ R.cells ∧ A.slots + (jLS - hsl h) ≤ R.slots
def jPB (K : JK) (h : JIH) (QR : JQR) : Pt → Array Value → Option Value → Pt → Prop := fun A _ v B => ∃ (h' : JIH) (L : List Loc), QR v h' ∧ jH K h' B.U.heap ∧ jGr h h' ∧ B.locs = A.locs ++ L ∧ (∀ q ∈ L, h.1 ≤ q.base) ∧ B.cells = A.cells + (h'.2.length - h.2.length) ∧ B.slots = A.slots + (hsl h' - hsl h)
def jPX (K : JK) (h : JIH) (QX : JQX) : Pt → Array Value → Addr → Pt → Prop := fun A _ x B => ∃ (h' : JIH) (L : List Loc) (E : String), QX x E h' ∧ jEx K E x B.U.heap ∧ jH K h' B.U.heap ∧ jGr h h' ∧ B.locs = A.locs ++ L ∧ (∀ q ∈ L, h.1 ≤ q.base) ∧ B.cells = A.cells + (h'.2.length - h.2.length) ∧ B.slots = A.slots + (hsl h' - hsl h)
/-- what is asked of a callee's words -/
def jCW (K : JK) (y : MethodName) (ws : List Cond) (maxL : Nat) : Prop := (∀ w ∈ ws, w ∈ lw_all) ∧ Cond.initialized y.cls ∈ lw_all ∧ (∀ (U : State) (mk : MethodId), K.2.2.WarmedH U.vm → U.methodNamed? y = some mk → ∃ (my : Method) (cy : Code), U.vm.method? mk = some my ∧ my.code = some cy ∧ cy.maxLocals = maxL)
theorem jCW.of {K : JK} (F : JF K) {y : MethodName} {b : ByteArray} {maxL : Nat} {ret : Option FieldType} (h : Cond.code y b maxL ret ∈ lw_all) (hi : Cond.initialized y.cls ∈ lw_all) : jCW K y (ws_ y b maxL ret) maxL := by
  refine ⟨fun w hw => ?_, hi, fun U mk hW hn => ?_⟩
  · rcases List.mem_cons.mp hw with rfl | hw
    · exact h
    · exact hw
  · obtain ⟨my, cy, h1, h2, -, h4, -, -, -, -⟩ := Cond.code_spec hn (jgood F hW h #[])
    exact ⟨my, cy, h1, h2, h4⟩
theorem jCW.ofW {K : JK} (F : JF K) {y : MethodName} {b : ByteArray} {maxL : Nat} {ret : Option FieldType} {hh : List (Nat × Nat × Nat × Nat)} (h : Cond.codeWith y b maxL ret hh ∈ lw_all) (hi : Cond.initialized y.cls ∈ lw_all) : jCW K y (wsW_ y b maxL ret hh) maxL := by
  refine ⟨fun w hw => ?_, hi, fun U mk hW hn => ?_⟩
  · rcases List.mem_cons.mp hw with rfl | hw
    · exact h
    · exact hw
  · obtain ⟨m9, my, cy, hn9, h1, h2, -, h4, -⟩ := Cond.codeWith_spec (jgood F hW h #[])
    cases hn.symm.trans hn9
    exact ⟨my, cy, h1, h2, h4⟩
/-- .. where the heap it is called in holds Φ too -/
def CtG (K : JK) (l : Launch) (y : MethodName) (ws : List Cond) (lv : Nat) (av : List Value) (h0 : JIH) (Φ : Heap → Prop) (QR : JQR) (QX : JQX) : Prop :=
  MetFree l y (headSpec ws (jroom lv h0)) (fun v U => v = av.toArray ∧ jWD K h0 U ∧ Φ U.heap) (fun _ _ _ _ _ => True) (fun _ st o t => jPost K h0 QR QX st o t)
theorem Ct.toG {K : JK} {l : Launch} {y : MethodName} {ws : List Cond} {lv : Nat} {av : List Value} {h0 : JIH} {QR : JQR} {QX : JQX} (h : Ct K l y ws lv av h0 QR QX) (Φ : Heap → Prop) : CtG K l y ws lv av h0 Φ QR QX := by
  intro p e ha hc hk s m args below hf hap hp ht
  exact h p e ha hc hk s m args below hf hap ⟨hp.1, hp.2.1⟩ ht
def jPreG (K : JK) (R : Room) (av : List Value) (h : JIH) (Φ : Heap → Prop) : Pt → Array Value → Prop := fun A a => a = av.toArray ∧ jWD K h A.U ∧ A.cells + (jLC - h.2.length) ≤ R.cells ∧ A.slots + (jLS - hsl h) ≤ R.slots ∧ Φ A.U.heap
theorem ct_backG {K : JK} {l : Launch} {R : Room} {p : Program} {e : Env} {below : List Frame} {s : State} {sargs : Array Value} {y : MethodName} {len lv maxL : Nat} {ws : List Cond} {av : List Value} {h : JIH} {QR : JQR} {QX : JQX} {Φ : Heap → Prop}
    (hM : CtG K l y ws lv av h Φ QR QX) (F : JF K) (hs : K.2.2.WarmedH s.vm) (cw : jCW K y ws maxL) (hframes : lv + 1 ≤ R.frames) (hlocals : 8 + (maxL + 11) + 64 * lv ≤ R.locals) :
    vx_Back l R p e below s sargs y len 8 (jPreG K R av h Φ) (jPB K h QR) (jPX K h QX) := by
  intro m meth c A g ig mk a X hg hsize hdg hW hn hp
  obtain ⟨rfl, hWD, hp1, hp2, hΦ⟩ := hp
  have hWA : K.2.2.WarmedH A.U.vm := State.WarmedH.trans hs X.warmed
  have h1 : (headSpec ws (jroom lv h)).pre.before av.toArray A.U = true := atoms_intro fun w hw => jgood F hWA (cw.1 w hw) _
  have h3 : (Cond.initialized y.cls).before av.toArray A.U = true := jgood F hWA cw.2.1 _
  have h4 : A.cells + (headSpec ws (jroom lv h)).room.cells ≤ R.cells := hp1
  have h5 : A.slots + (headSpec ws (jroom lv h)).room.slots ≤ R.slots := hp2
  obtain ⟨methY, cY, hmY, hcY, hlY⟩ := cw.2.2 A.U mk hWA hn
  obtain ⟨U, Ls, c0, s0⟩ := A
  dsimp only [Pt.U, Pt.locs, Pt.cells, Pt.slots] at h1 h3 h4 h5 X hn hWD hΦ hmY ⊢
  have hPc : av.toArray = av.toArray ∧ jWD K h (U.calling g mk av.toArray) ∧ Φ (U.calling g mk av.toArray).heap := ⟨rfl, hWD, hΦ⟩
  obtain ⟨kY, hkY, -⟩ := className_of_methodNamed hn
  have hinitY : kY.init = .initialized := Cond.initialized_spec (findClass_of_methodNamed hn) hkY h3
  have hh : At U g.method c below := by rw [hg]; exact X.here
  have hlocals9 : 8 + (maxL + 11) + (headSpec ws (jroom lv h)).room.locals ≤ R.locals := hlocals
  have hframes9 : (headSpec ws (jroom lv h)).room.frames + 1 ≤ R.frames := hframes
  have happ : (headSpec ws (jroom lv h)).appliesLoose y e.platform (U.calling g mk av.toArray) = true :=
    Spec.appliesLoose_calling (g := g) hh hdg hn hkY hinitY
      (X.room_calling (g := g) (R' := (headSpec ws (jroom lv h)).room) hsize hmY hcY hframes9 (by rw [hlY]; omega) h4 h5) h1
  obtain ⟨mid, hmid⟩ := hh.above
  have hfr : (U.setTop g).frames = (.java g :: mid) ++ below := by rw [State.frames_setTop' g hh.top, hmid]; rfl
  obtain ⟨o, s₂, hsteps, -, hend, hq⟩ := Steps.callFree hM p X.admits X.cas X.clock (acts := []) hfr happ hPc trivial
  have hq' : jPost K h QR QX (U.calling g mk av.toArray) o s₂ := hq
  rw [State.frames_setTop' g hh.top] at hend
  obtain ⟨g₀, hg0⟩ := Option.isSome_iff_exists.mp hh.top
  obtain ⟨r, hr⟩ := State.topJava?_eq_some.mp hg0
  have hr' : (({ U with heap := s₂.heap, slotsUsed := s₂.slotsUsed } : State).setVm s₂.vm).frames = .java g₀ :: r := hr
  rcases hq' with ⟨v0, h', L, rfl, hqr, hH', hgr, hfe, hL⟩ | ⟨q, h', L, E, rfl, hqx, hgx, hH', hgr, hW₂, hsm, hL⟩
  · obtain ⟨⟨v, hv⟩, hW₂, e2, q2, q3, q4, q5, q6⟩ := id hfe
    cases hv
    have e3 : s₂ = ({ (U.calling g mk av.toArray).setFrames s₂.frames with heap := s₂.heap, slotsUsed := s₂.slotsUsed } : State).setVm s₂.vm := by
      have : s₂ = ({ s₂ with vm := (U.calling g mk av.toArray).vm } : State).setVm s₂.vm := rfl
      rw [e2] at this
      exact this
    obtain ⟨c₂, i₂, len₂, hc₂, hd₂, hf₂⟩ := hend
    have hW' : U.WarmedH s₂.vm := hW₂
    have hcc : c₂ = c := by
      have h1 : s₂.code? g.method = U.code? g.method := by
        rw [State.code?_eq, State.code?_eq, hW'.alike.method?]
      exact Option.some.inj (hc₂.symm.trans (h1.trans hh.code))
    subst hcc
    have hlen : len₂ = len := by rw [hdg] at hd₂; cases hd₂; rfl
    subst hlen
    have hs₂ : s₂ = (({ U with heap := s₂.heap, slotsUsed := s₂.slotsUsed } : State).setVm s₂.vm).setTop { g with pc := g.pc + len₂, stack := v0.toList ++ g.stack } := by
      refine e3.trans ?_
      rw [hf₂, State.calling_eq hh.top, State.setFrames_setFrames, State.setTop_of_frames _ hr', hr]
      rfl
    have hsame : U.sameButNew ({ U with heap := s₂.heap, slotsUsed := s₂.slotsUsed } : State) L (h'.2.length - h.2.length) (hsl h' - hsl h) := by
      refine ⟨?_, q2, q3, q4, q5, q6⟩
      obtain ⟨t, ht, -⟩ := State.frames_cons hr
      show ({ U with heap := s₂.heap, slotsUsed := s₂.slotsUsed } : State) = { U.setFrames U.frames with heap := s₂.heap, slotsUsed := s₂.slotsUsed }
      rw [State.setFrames_self ht]
    subst hg
    refine Or.inl ⟨v0, ⟨(({ U with heap := s₂.heap, slotsUsed := s₂.slotsUsed } : State).setVm s₂.vm), Ls ++ L, c0 + (h'.2.length - h.2.length), s0 + (hsl h' - hsl h)⟩,
      ⟨X.admits, X.cas, X.clock, X.frames, X.room, X.hears, X.method, X.code, (X.here.setHeapUsed s₂.heap s₂.slotsUsed).setVm hW'.alike, X.tail, State.WarmedH.trans X.warmed hW', X.limits, X.bytes, X.same.trans (hsame.setVm s.vm)⟩,
      ⟨h', L, hqr, hH', hgr, rfl, hL, rfl, rfl⟩, ?_⟩
    show Steps p.tables e below _ ((({ U with heap := s₂.heap, slotsUsed := s₂.slotsUsed } : State).setVm s₂.vm).setTop { g with pc := g.pc + len₂, stack := v0.toList ++ g.stack })
    rw [← hs₂]
    exact hsteps
  · obtain ⟨e2, q2, q3, q4, q5, q6⟩ := id hsm
    have e3 : s₂ = ({ (U.calling g mk av.toArray).setFrames s₂.frames with heap := s₂.heap, slotsUsed := s₂.slotsUsed } : State).setVm s₂.vm := by
      have : s₂ = ({ s₂ with vm := (U.calling g mk av.toArray).vm } : State).setVm s₂.vm := rfl
      rw [e2] at this
      exact this
    have hf₂ : s₂.frames = .throwing q :: .java g :: U.frames.tail := hend
    have hW' : U.WarmedH s₂.vm := hW₂
    have hs₂ : s₂ = ((({ U with heap := s₂.heap, slotsUsed := s₂.slotsUsed } : State).setVm s₂.vm).setTop g).pushFrame (.throwing q) := by
      refine e3.trans ?_
      rw [hf₂, State.calling_eq hh.top, State.setFrames_setFrames, State.pushFrame, State.frames_setTop _ hr', State.setTop_of_frames _ hr', State.setFrames_setFrames, hr]
      rfl
    have hsame : U.sameButNew ({ U with heap := s₂.heap, slotsUsed := s₂.slotsUsed } : State) L (h'.2.length - h.2.length) (hsl h' - hsl h) := by
      refine ⟨?_, q2, q3, q4, q5, q6⟩
      obtain ⟨t, ht, -⟩ := State.frames_cons hr
      show ({ U with heap := s₂.heap, slotsUsed := s₂.slotsUsed } : State) = { U.setFrames U.frames with heap := s₂.heap, slotsUsed := s₂.slotsUsed }
      rw [State.setFrames_self ht]
    subst hg
    refine Or.inr ⟨q, ⟨(({ U with heap := s₂.heap, slotsUsed := s₂.slotsUsed } : State).setVm s₂.vm), Ls ++ L, c0 + (h'.2.length - h.2.length), s0 + (hsl h' - hsl h)⟩,
      ⟨X.admits, X.cas, X.clock, X.frames, X.room, X.hears, X.method, X.code, (X.here.setHeapUsed s₂.heap s₂.slotsUsed).setVm hW'.alike, X.tail, State.WarmedH.trans X.warmed hW', X.limits, X.bytes, X.same.trans (hsame.setVm s.vm)⟩,
      ⟨h', L, E, hqx, hgx, hH', hgr, rfl, hL, rfl, rfl⟩, ?_⟩
    show Steps p.tables e below _ (((({ U with heap := s₂.heap, slotsUsed := s₂.slotsUsed } : State).setVm s₂.vm).setTop g).pushFrame (.throwing q))
    rw [← hs₂]
    exact hsteps
theorem ct_back {K : JK} {l : Launch} {R : Room} {p : Program} {e : Env} {below : List Frame} {s : State} {sargs : Array Value} {y : MethodName} {len lv maxL : Nat} {ws : List Cond} {av : List Value} {h : JIH} {QR : JQR} {QX : JQX}
    (hM : Ct K l y ws lv av h QR QX) (F : JF K) (hs : K.2.2.WarmedH s.vm) (cw : jCW K y ws maxL) (hframes : lv + 1 ≤ R.frames) (hlocals : 8 + (maxL + 11) + 64 * lv ≤ R.locals) :
    vx_Back l R p e below s sargs y len 8 (jPre K R av h) (jPB K h QR) (jPX K h QX) := by
  intro m meth c A g ig mk a X hg hsize hdg hW hn hp
  exact ct_backG (hM.toG (fun _ => True)) F hs cw hframes hlocals m meth c A g ig mk a X hg hsize hdg hW hn ⟨hp.1, hp.2.1, hp.2.2.1, hp.2.2.2, trivial⟩
