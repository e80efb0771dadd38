/-! SegmentedCache$Off: its constructor; 'new Off(n)' -/
/-- nobody holds the monitor of the cell a, which has n slots -/
def jFree (a n : Nat) (H : Heap) : Prop := ∃ ce : Cell, H[a]? = some ce ∧ ce.monitor.owner = none ∧ ce.monitor.count = 0 ∧ ce.slots.size = n
def JS (M : JM) (Φ : Heap → Prop) : Prop := match M with
  | (_, _, _, _, _, _, _, _, s, _, _, _, _, _) => Φ s.heap
theorem CtG.start {K : JK} {l : Launch} {y : MethodName} {cc : ByteArray} {maxL : Nat} {ret : Option FieldType} {lv : Nat} {av : List Value} {h0 : JIH} {Φ : Heap → Prop} {QR : JQR} {QX : JQX} (F : JF K) (hy : plainName y.cls = true) (hn : (jsl av).length ≤ maxL) {ls : List (Option Value)} (hls : jent av maxL = ls)
    (body : ∀ M : JM, JX M K l cc y.cls maxL ret y.name [] lv h0 QR QX → JS M Φ → J M h0 0 ls []) : CtG K l y (ws_ y cc maxL ret) lv av h0 Φ QR QX := by
  subst hls
  refine MetFree.of_bodyS (code := cc) (maxLocals := maxL) (ret := ret) hy ?_ ?_
  · intro args s m h hn
    obtain ⟨meth, c, h1, h2, h3, h4, h5, h6, -, -⟩ := Cond.code_spec hn (atoms_spec (ws := ws_ y cc maxL ret) h _ List.mem_cons_self)
    exact ⟨meth, c, h1, h2, h3, h4, h5, h6⟩
  · intro p e s m args below meth c s₁ B hml hP _
    obtain ⟨rfl, hWD, hΦ⟩ := hP
    have hh0 : s₁.heap = s.heap := by rw [B.state]; rfl
    have hts := atoms_spec (ws := ws_ y cc maxL ret) B.pre
    have ht : c.exceptionTable.toList = tableOf [] := by
      obtain ⟨meth9, c9, h1, h2, -, -, -, -, h7, -⟩ := Cond.code_spec B.named (hts _ List.mem_cons_self)
      cases Option.some.inj (h1.symm.trans B.method)
      cases Option.some.inj (h2.symm.trans (Stand.of_body B).code)
      rw [Array.isEmpty_iff.mp h7]
      rfl
    have hJ := body (K, h0, QR, QX, p, l, e, jroom lv h0, s, m, av.toArray, below, meth, c) ⟨⟨rfl, rfl, rfl, rfl, rfl⟩, B.exec, B.bytes, hml, findClass_of_methodNamed B.named, B.returns, B.notSynchronized, fun w h => hts w (List.mem_cons_of_mem _ h), F, hWD.1, rfl, hWD.2.2.1, hWD.2.1, (name_of_methodNamed B.named B.method).1, ht⟩ hΦ
    have hw := hJ s.heap [] _ hWD.2 (fun q h => by cases h) (jent_ok av hn) (jGr.rf h0)
    rw [Nat.sub_self, Nat.sub_self, ← lg_entry_eq] at hw
    obtain ⟨t, a1, o, b1, b2, b3⟩ := hw s₁ hh0 (Stand.of_body B)
    exact ⟨t, o, a1, b1, b2, b3⟩
/-- a frame seen from a rebased start, seen from the first start again: written places too -/
theorem vx_back9L {p : Program} {l : Launch} {e : Env} {R : Room} {s : State} {m : MethodId} {args : Array Value} {below : List Frame} {meth : Method} {c : Code} {locs L : List Loc} {cells slots : Nat} {T S : State} {R' : Room} {k n : Nat} (X : Stand p l e R s m args below meth c T locs cells slots) (Y : Stand p l e R' ((T.setVm s.vm).setFrames (.invoking m args :: below)) m args below meth c T [] 0 0) (Z : Stand p l e R' ((T.setVm s.vm).setFrames (.invoking m args :: below)) m args below meth c S L k n) :
    Stand p l e R s m args below meth c S (locs ++ L) (cells + k) (slots + n) := by
  have hW0 : s.WarmedH ((T.setVm s.vm).setFrames (.invoking m args :: below)).vm := State.WarmedH.refl s
  refine { admits := X.admits, cas := X.cas, clock := X.clock, frames := X.frames, room := X.room, hears := X.hears, method := X.method, code := X.code, here := Z.here, tail := Z.tail, warmed := State.WarmedH.trans hW0 Z.warmed, limits := Z.limits.trans (Y.limits.symm.trans X.limits), bytes := Z.bytes.trans (Y.bytes.symm.trans X.bytes), same := ?_ }
  obtain ⟨e1, e2⟩ := Z.same
  rw [State.setFrames_setFrames] at e1
  have h2 : (T.setVm s.vm).sameButNew (S.setVm s.vm) L k n := ⟨e1, e2⟩
  exact X.same.trans h2
theorem jTakes {s : State} {cell : Cell} {k : Class} {f : Field} {v : Value} (hk : s.vm.classes[cell.cls]? = some k) (hord : k.kind = .ordinary) (hvm : cell.vm = .none) (hz : cell.slots.size = k.instanceTypes.size) (hty : k.instanceTypes[f.slot]? = some f.type) (hv : fits f.type v = true) : Takes s cell f v := by
  refine ⟨?_, ?_⟩
  · rw [hz]; exact (Array.getElem?_eq_some_iff.mp hty).1
  · rw [hvm]; simp [State.fitsSlot, State.slotType?, hk, hord, hty, hv]
section JR
variable {M : JM} {K : JK} {l0 : Launch} {cc : ByteArray} {own : String} {nL : Nat} {ret : Option FieldType} {nm : String} {hh : List (Nat × Nat × Nat × Nat)} {lv : Nat} {h0 : JIH} {QR : JQR} {QX : JQX} {h : JIH} {pc : Nat} {ls : List (Option Value)} {st : List Value}
set_option maxHeartbeats 2000000 in
theorem J.superOff {a : Nat} {fs : List Value} (X : JX M K l0 cc RX11 nL ret nm hh lv h0 QR QX) (hS : JS M (jFree a 7)) (hl : l0.stackTraces = false) (hd : decode cc pc = .ok (.invokespecial 1, 3)) (hf : hget h a = some (jO 11 fs)) (hfl : fs.length = 7) (hbk : vp_V fs 4 = .null) (hlv : 8 ≤ lv) (k : ∀ fs' : List Value, fs'.length = 7 → J M (hset h a (jO 11 fs')) (pc + 3) ls st)
    (hrst : (st.map fun v => v.category).sum ≤ 8 := by first | exact Nat.le_of_ble_eq_true rfl | (simp [jcat_v]; done)) (hnl : ls.length = nL := by rfl) : J M h pc ls (.ref a :: st) := by
  obtain ⟨K1, h1, R1, X1, p, l, e, R, s, m, args, below, meth, c⟩ := M
  obtain ⟨⟨rfl, rfl, rfl, rfl, rfl⟩, hexec, hb, hml, hown, hr, hlk, hts, F, hW, hR, hs0, hb0, hnm, htab⟩ := X
  intro H locs la hH hlo hla hg T hT XS
  subst hR
  subst hT
  obtain ⟨ce0, m1, m2, m3, m4⟩ := hS
  obtain ⟨ce, hce, he1, he2, -⟩ := XS.same.2.2.2.2.2 a ce0 m1
  have hce : T.heap[a]? = some ce := hce
  have hmo : ce.monitor.owner = none := by rw [he1]; exact m2
  have hmc : ce.monitor.count = 0 := by rw [he1]; exact m3
  have hsz : ce.slots.size = 7 := by rw [he2]; exact m4
  obtain ⟨r9, hr9, cell, g1, g2, g3, g4⟩ := hH.2.2.1 a _ hf
  cases Option.some.inj (g1.symm.trans hce)
  have hr9' : r9 = (RX11, TX11, 7) := Option.some.inj (hr9.symm.trans rfl)
  subst hr9'
  have htr : e.platform.stackTraces = false := (show e.platform.stackTraces = l.stackTraces by rw [XS.admits.platform]).trans hl
  have hrm := jroom_x (lv := lv) (k := 0) (n := 0) hg (show hres h + (8 * 0 + 0) ≤ jRL by have := hH.2.2.2.2; omega)
  have Y := vx_rebase XS (R' := { frames := (jroom lv h1).frames, locals := (jroom lv h1).locals, cells := 0, slots := 0 }) (Nat.le_refl _) (Nat.le_refl _) hrm.1 hrm.2
  have howns : e.platform.frameOwnsMonitors = true := by rw [XS.admits.platform]
  have hfin : e.platform.finalization = false := by rw [XS.admits.platform]
  have hpl : e.platform.magicAccessors = ({} : Platform).magicAccessors := by rw [XS.admits.platform]
  obtain ⟨s', hA'⟩ : ∃ z, z = (T.setVm s.vm).setFrames (.invoking m args :: below) := ⟨_, rfl⟩
  have hvm : s'.vm = s.vm := by rw [hA']; rfl
  have hhp : s'.heap = T.heap := by rw [hA']; rfl
  have hW' : K1.2.2.WarmedH s'.vm := by rw [hvm]; exact hW
  have hH' : jH K1 h s'.heap := by rw [hhp]; exact hH
  have Y' := Y
  rw [← hA'] at Y'
  have wd : ∀ w ∈ lw_all, w.before args s' = true := fun w hw => jgood F hW' hw args
  obtain ⟨T0, Z, L, LZ, Yt⟩ := ThrowableC.of_atoms (args := args) (s := s') howns hfin hpl (ex_throwable F s' args h hW' hH')
  obtain ⟨P1, Ps, hlen, L1, hL, hP1m, hlink1, hlink⟩ := Bundle.chain0 (args := args) (s := s') hpl Yt.init0 ["java/lang/Exception"] "java/lang/RuntimeException" (by decide) (by decide) (ex_cOff F s' args h hW' hH')
  have hKn := (jK F hW').1 11 _ (show jcl[11]? = some (RX11, TX11, 7) from rfl)
  have hfound : s'.vm.findClass RX11 = some (K1.1.1 11) := hKn.2.1
  obtain ⟨c1, kX, hc1, hk, hord, -, -, hn7⟩ := Cond.instantiable_spec (wd _ q2295)
  cases Option.some.inj (hc1.symm.trans hfound)
  have hsel0 : selectMethod e.platform s'.vm (K1.1.1 11) T0.fill0 = .method T0.fill0 := by
    obtain ⟨c2, r2, m2, q1, q2, q3, q4, -⟩ := Cond.selects_spec (wd _ q2297)
    cases Option.some.inj (q1.symm.trans hfound)
    cases Option.some.inj (q2.symm.trans (State.methodFound?_of_named Yt.fill0 (by decide)))
    cases Option.some.inj (q3.symm.trans Yt.fill0)
    rw [Launch.admits_selectMethod XS.admits]; exact q4
  have hselF : selectMethod e.platform s'.vm (K1.1.1 11) T0.fill = .method T0.fill := by
    obtain ⟨c2, r2, m2, q1, q2, q3, q4, -⟩ := Cond.selects_spec (wd _ q687)
    cases Option.some.inj (q1.symm.trans hfound)
    cases Option.some.inj (q2.symm.trans (State.methodFound?_of_named Yt.fill (by decide)))
    cases Option.some.inj (q3.symm.trans Yt.fill)
    rw [Launch.admits_selectMethod XS.admits]; exact q4
  obtain ⟨cellS, hcS0, hiss⟩ := Yt.statics
  have hu1 : (Cond.isRef (.static Bundle.tN "UNASSIGNED_STACK" Bundle.steD)).before args s' = true := ex_u1 F s' args h hW' hH' _ List.mem_cons_self
  have hu2 : (Cond.isRef (.static Bundle.tN "SUPPRESSED_SENTINEL" Bundle.listD)).before args s' = true := ex_u2 F s' args h hW' hH' _ List.mem_cons_self
  obtain ⟨u0, hu0⟩ := Cond.staticRefV Yt.unassigned L.unassignedStatic L.statics hcS0 hiss hu1
  obtain ⟨sen, hsen⟩ := Cond.staticRefV Yt.sentinel L.sentinelStatic L.statics hcS0 hiss hu2
  obtain ⟨ci198, i198, fB, hk198, hg198, ha198, hsB, -, hnB, htB, hffB⟩ := Cond.ownField (t := .object "java/lang/Object") Yt.found L.cls (by decide +kernel) (wd _ (show Cond.fieldLink Bundle.tN 198 Bundle.tN "backtrace" "Ljava/lang/Object;" ∈ lw_all from q755)) (wd _ (show Cond.lays Bundle.tN Bundle.tN "backtrace" "Ljava/lang/Object;" ∈ lw_all from q674)) e.platform hpl
  have hcellS : T.heap[T0.aS]? = some cellS := by rw [← hhp]; exact hcS0
  have hknownS : cellS.vm ≠ .unknown := by
    intro hu
    rw [hu] at hiss
    cases hiss
  have hneS : T0.aS ≠ a := by
    intro hq
    rw [hq] at hcellS
    cases Option.some.inj (hcellS.symm.trans g1)
    rw [g3] at hiss
    cases hiss
  have hkc : s'.vm.classes[ce.cls]? = some kX := by rw [g2]; exact hk
  obtain ⟨tyC, dC, hdC, hdnC⟩ := Cond.laysAt hfound hk Yt.cause (wd _ q2298)
  obtain ⟨tyS, dS, hdS, hdnS⟩ := Cond.laysAt hfound hk Yt.stack (wd _ q2299)
  obtain ⟨tyP, dP, hdP, hdnP⟩ := Cond.laysAt hfound hk Yt.supp (wd _ q2300)
  obtain ⟨tyB, dB, hdB, hdnB⟩ := Cond.laysAt hfound hk hffB (wd _ q2302)
  have bC := Cond.laysApart hdB hdC hdnB hdnC (by rw [hnB, Yt.causeName]; decide)
  have bS := Cond.laysApart hdB hdS hdnB hdnS (by rw [hnB, Yt.stackName]; decide)
  have bP := Cond.laysApart hdB hdP hdnB hdnP (by rw [hnB, Yt.suppName]; decide)
  have hbslot : fB.slot = K1.1.2 11 4 := by
    obtain ⟨cf, kf, fi, fd, q1, q2⟩ := hKn.1 4 (by decide)
    have q1' : s'.fieldFound? "java/lang/Throwable" "backtrace" "Ljava/lang/Object;" = some (cf, kf, fi, fd) := q1
    have := Option.some.inj (q1'.symm.trans hffB)
    cases this
    exact q2
  have hbnull : ce.slots[fB.slot]? = some .null := by
    have := g4 4 (by decide)
    rw [hbslot, ← hbk]
    exact this
  have hskip : SkipFacts T0 e.platform s' (fun u => u) u0 ((preparedCellV T0.toThrowableT ce a u0 sen).withEntry T.cur) :=
    ⟨{ ci198 := ci198, i198 := i198, fBack := fB }, ⟨hk198, hg198, ha198, hsB⟩, by
      simpa [preparedCellV, Cell.setSlot, Cell.withEntry, Array.getElem?_setIfInBounds, bC, bS, bP, bC.symm, bS.symm, bP.symm] using hbnull, fun _ _ => rfl⟩
  have hzz : ce.slots.size = kX.instanceTypes.size := by rw [hsz, hn7]
  have hown' : s'.vm.findClass RX11 = some m.cls := by rw [hvm]; exact hown
  have hd6 : decode c.code (F0 m pc la (.ref a :: st)).pc = .ok (.invokespecial 1, 3) := by rw [hb]; exact hd
  obtain ⟨tm, methC, cdC, kC, vm₁, hnC, -, -, -, -, -, -, -, hW₁, st1⟩ := Steps.initCold (tb := p.tables) (e := e) (below := below) (s := s') (U := T) Y'.here hexec Y'.warmed hpl hown' (t := Bundle.init0 "java/lang/RuntimeException") rfl rfl (by decide)
    (wd _ (show Cond.methodLink RX11 1 (Bundle.init0 "java/lang/RuntimeException") ∈ lw_all from q2306)) (wd _ (show Cond.instanceMethod (Bundle.init0 "java/lang/RuntimeException") ∈ lw_all from q749)) (bytes := Bundle.five) (maxL := 1) (wd _ (show Cond.code (Bundle.init0 "java/lang/RuntimeException") Bundle.five 1 none ∈ lw_all from q750))
    (f := F0 m pc la (.ref a :: st)) rfl (a := a) (rest := st) rfl hd6
  cases Option.some.inj (hnC.symm.trans hP1m)
  have X₁ := Y'.noted hW₁
  obtain ⟨vm₂, X₂, st2⟩ := X₁.ctorPlainOffV hexec (g := F0 m pc la st) rfl (show la.size = c.maxLocals by rw [hml, ← hnl]; exact hla.1) T0 L Z LZ (P1 :: Ps)
    (fun P hP => by rcases List.mem_cons.mp hP with rfl | hP; exact L1; exact hL P hP) ⟨hlink1, hlink⟩ (u0 := u0) (sen := sen) (self := a) (cell := ce) (cellS := cellS)
    hce (fun _ => by rw [g3]; simp) (by rw [g3]; simp) hmo hmc (by rw [g2]; exact hsel0) (by rw [g2]; exact hselF) hcellS hneS hknownS hu0 hsen
    (jTakes hkc hord g3 hzz tyC (by rw [Yt.causeType]; rfl)) (jTakes hkc hord g3 hzz tyS (by rw [Yt.stackType]; exact fits_refV_array _ u0)) (jTakes hkc hord g3 hzz tyP (by rw [Yt.suppType]; exact fits_refV_object _ sen)) Yt.objLocals hskip htr [] hd6
    (by simp only [List.length_cons, hlen]; show 1 + 1 + 2 < lv; omega) (by simp only [List.length_cons, hlen]; show 2 * 0 + (st.map fun v => v.category).sum + (13 * (1 + 1) + 41) ≤ 64 * lv; omega)
  subst hA'
  have X5 := vx_back9L XS Y X₂
  obtain ⟨ce', hce'⟩ : ∃ z, z = (preparedCellV T0.toThrowableT ce a u0 sen).setSlot T0.fStack.slot u0.v := ⟨_, rfl⟩
  rw [← hce'] at X5 st2
  have hlt : a < T.heap.size := (Array.getElem?_eq_some_iff.mp hce).1
  have hsz' : ce'.slots.size = ce.slots.size := by rw [hce']; simp [preparedCellV, Cell.setSlot]
  have hcl' : ce'.cls = ce.cls := by rw [hce']; rfl
  have hvm' : ce'.vm = ce.vm := by rw [hce']; rfl
  have hat : (((T.setVm vm₁).setVm vm₂).setCell a ce').heap[a]? = some ce' := heapAt_setCell_self _ hlt
  have hne : ∀ b : Nat, a ≠ b → (((T.setVm vm₁).setVm vm₂).setCell a ce').heap[b]? = T.heap[b]? := fun b hb => State.heap_setCell_other hb
  have hzS : (((T.setVm vm₁).setVm vm₂).setCell a ce').heap.size = T.heap.size := by
    show (T.heap.setIfInBounds a ce').size = _
    simp
  obtain ⟨fs', hfs'⟩ : ∃ z : List Value, z = (List.range 7).map fun k => (ce'.slots[K1.1.2 11 k]?).getD .null := ⟨_, rfl⟩
  have hl7 : fs'.length = 7 := by rw [hfs']; simp
  have hz9 : esz (jO 11 fs') = esz (jO 11 fs) := by show fs'.length = fs.length; rw [hl7, hfl]
  have hHn : jH K1 (hset h a (jO 11 fs')) (((T.setVm vm₁).setVm vm₂).setCell a ce').heap := by
    refine ⟨by rw [hset_1]; exact hH.1, by rw [hzS, hnew_set]; exact hH.2.1, fun b eb hb => ?_, fun q hq => ?_, by rw [hres_set hf hz9]; exact hH.2.2.2.2⟩
    · by_cases hab : a = b
      · subst hab
        rw [hget_set_same _ hf] at hb
        cases hb
        refine ⟨(RX11, TX11, 7), rfl, ce', hat, by rw [hcl']; exact g2, by rw [hvm']; exact g3, fun k hk => ?_⟩
        have h4 := g4 k hk
        have h5 : K1.1.2 11 k < ce'.slots.size := by rw [hsz']; exact (Array.getElem?_eq_some_iff.mp h4).1
        rw [Array.getElem?_eq_getElem h5]
        unfold vp_V
        rw [hfs', List.getD_eq_getElem?_getD, List.getElem?_map, List.getElem?_range hk]
        show some _ = some ((ce'.slots[K1.1.2 11 k]?).getD .null)
        rw [Array.getElem?_eq_getElem h5]
        rfl
      · rw [hget_set_ne _ hab] at hb
        exact (hH.2.2.1 b eb hb).kept (hne b hab)
    · rw [hset_1] at hq
      rw [hne q (by have := hget_ge hf; omega)]
      exact hH.2.2.2.1 q hq
  obtain ⟨t, a1, b1⟩ := k fs' hl7 (((T.setVm vm₁).setVm vm₂).setCell a ce').heap (locs ++ ([] ++ [⟨a, T0.fCause.slot⟩, ⟨a, T0.fStack.slot⟩, ⟨a, T0.fSupp.slot⟩, ⟨a, T0.fStack.slot⟩])) la hHn (fun q hq => by
      rcases List.mem_append.mp hq with hq | hq
      · exact hlo q hq
      · have hqa : q.base = a := by
          simp only [List.nil_append, List.mem_cons, List.not_mem_nil, or_false] at hq
          rcases hq with rfl | rfl | rfl | rfl <;> rfl
        rw [hqa, hg.1]; exact hget_ge hf) hla (hg.set hf hz9) (((T.setVm vm₁).setVm vm₂).setCell a ce') rfl (by rw [hset_len, hsl_set hf hz9]; exact X5)
  exact ⟨t, st1 _ (fun acts => by rw [doInvoke_state]; exact st2 _ a1), b1⟩
end JR
theorem of_init {K : JK} {l : Launch} (F : JF K) (hl : l.stackTraces = false) {h : JIH} {a : Nat} {n : Int32} (hf : hget h a = some (jO 11 [.null, .null, .null, .null, .null, .int 0, .int 0])) :
    CtG K l yX11_init (ws_ yX11_init cX11_init 2 none) 9 [.ref a, .int n] h (jFree a 7) (jRv fun h' => ∃ fs : List Value, fs.length = 7 ∧ fs[6]? = some (.int n) ∧ hset h a (jO 11 fs) = h') jNo := by
  refine CtG.start (maxL := 2) (ls := [some (.ref a), some (.int n)]) F (by decide) (Nat.le_of_ble_eq_true rfl) rfl (body := fun M X S => ?_)
  refine J.aload0 X dX11_init_0 ?_
  refine J.superOff X S hl dX11_init_1 hf rfl rfl (by decide) (fun fs' h7 => ?_)
  refine J.aload0 X dX11_init_4 ?_
  refine J.iload1 X dX11_init_5 ?_
  refine J.putf X dX11_init_6 pl_X11_7_X11 (hget_set_same _ hf) (by rw [h7]; decide) rfl rfl ?_
  refine J.vreturn X dX11_init_9 (jRv.of ?_)
  refine ⟨fs'.set 6 (.int n), by simp [h7], by rw [List.getElem?_set_self (by rw [h7]; decide)], ?_⟩
  rw [hset_hset hf]
section JR
variable {M : JM} {K : JK} {l0 : Launch} {cc : ByteArray} {own : String} {nL : Nat} {ret : Option FieldType} {nm : String} {hh : List (Nat × Nat × Nat × Nat)} {lv : Nat} {h0 : JIH} {QR : JQR} {QX : JQX} {h : JIH} {pc : Nat} {ls : List (Option Value)} {st : List Value}
/-- how a number comes upon the stack -/
def JArg (M : JM) (h : JIH) (pc pc' : Nat) (ls : List (Option Value)) (n : Int32) : Prop := match M with
  | (K, h0, QR, QX, p, l, e, R, s, m, args, below, meth, c) => ∀ (H : Heap) (locs : List Loc) (la : Array Slot) (cells slots : Nat) (stk : List Value), jP K.1 jcl h H → jl la ls → W p l e R s m args below meth c H locs cells slots (jQ K h0 QR QX below s) (F0 m pc' la (.int n :: stk)) → W p l e R s m args below meth c H locs cells slots (jQ K h0 QR QX below s) (F0 m pc la stk)
theorem JArg.bipush {n : Int} {v : Int32} (X : JX M K l0 cc own nL ret nm hh lv h0 QR QX) (hd : decode cc pc = .ok (.bipush n, 2)) (hv : (Int8.ofInt n).toInt32 = v) : JArg M h pc (pc + 2) ls v := by
  obtain ⟨K1, h1, R1, X1, p, l, e, R, s, m, args, below, meth, c⟩ := M
  obtain ⟨⟨rfl, rfl, rfl, rfl, rfl⟩, hx, hb, hml, hown, hr, hlk, hts, F, hW, hR, hs0, hb0, hnm, htab⟩ := X
  intro H locs la cells slots stk hP hla k
  exact lv_bipush hx hb hd hv k
theorem JArg.fld {idx ci k o : Nat} {fs : List Value} {v : Int32} {r : List (Option Value)} (X : JX M K l0 cc own nL ret nm hh lv h0 QR QX) (hd : decode cc pc = .ok (.aload_n 0, 1)) (hd2 : decode cc (pc + 1) = .ok (.getfield idx, 3)) (fl : jFL own idx ci k) (hf : hget h o = some (jO ci fs)) (hv : fs[k]? = some (.int v)) : JArg M h pc (pc + 4) (some (.ref o) :: r) v := by
  obtain ⟨K1, h1, R1, X1, p, l, e, R, s, m, args, below, meth, c⟩ := M
  obtain ⟨⟨rfl, rfl, rfl, rfl, rfl⟩, hx, hb, hml, hown, hr, hlk, hts, F, hW, hR, hs0, hb0, hnm, htab⟩ := X
  intro H locs la cells slots stk hP hla kk
  obtain ⟨C, T, N, ref, hc, hk, hlink, hsame⟩ := fl
  obtain ⟨hin, -, -, -, -⟩ := jclok hc
  obtain ⟨q0, he⟩ := hL_of hf
  have hs : ∀ x, s.fieldFound? (T k).1 (T k).2.1 (T k).2.2.1 = some x → s.fieldFound? ref (T k).2.1 (T k).2.2.1 = some x := by
    rcases hsame with rfl | hw
    · exact fun _ h => h
    · exact fun x hx => u_same (hts _ hw) x hx
  refine lv_aload_n hx hb hd rfl (hla.2.2 0 _ rfl) ?_
  rcases hlink with hl | ⟨host, hl⟩
  · exact va_get hx hb hts hin hown (jK F hW) hP.va q0 he hc k hk (hts _ hl) hs hv hd2 kk
  · exact va_getN hx hb hts hin hown (jK F hW) hP.va q0 he hc k hk (jnestF F hW hl _) hs hv hd2 kk
/-- 'new Off(n)' -/
theorem J.off {ik ic pc' : Nat} {n : Int32} (t : Nat) (X : JX M K l0 cc own nL ret nm hh lv h0 QR QX) (hl : l0.stackTraces = false) (d0 : decode cc pc = .ok (.new ik, 3)) (d3 : decode cc (pc + 3) = .ok (.dup, 1)) (cl : jCL own ik RX11) (ha : JArg M (hpush h t (jO 11 [.null, .null, .null, .null, .null, .int 0, .int 0])) (pc + 4) pc' ls n) (d6 : decode cc pc' = .ok (.invokespecial ic, 3)) (lk : jLkI own ic yX11_init 1) (hlv : 10 ≤ lv) (hr9 : hres h + (8 + 7) ≤ jRL)
    (k : ∀ fs : List Value, fs.length = 7 → fs[6]? = some (.int n) → J M (hpush h t (jO 11 fs)) (pc' + 3) ls (.ref (hnew h) :: st)) (hrst : ((Value.ref 0 :: st).map fun v => v.category).sum ≤ 8 := by first | exact Nat.le_of_ble_eq_true rfl | (simp [jcat_v]; done)) (hnl : ls.length = nL := by rfl) : J M h pc ls st := by
  obtain ⟨K1, h1, R1, X1, p, l, e, R, s, m, args, below, meth, c⟩ := M
  obtain ⟨⟨rfl, rfl, rfl, rfl, rfl⟩, hx, hb, hml, hown, hr, hlk, hts, F, hW, hR, hs0, hb0, hnm, htab⟩ := X
  intro H locs la hH hlo hla hg
  have hc : jcl[11]? = some (RX11, TX11, 7) := rfl
  obtain ⟨hin, ⟨ty, hty⟩, hnm0, hinst, hini⟩ := jclok hc
  have hKn := (jK F hW).1 11 _ hc
  subst hR
  have hrm := jroom_c (lv := lv) hg hr9
  refine W.newcK hx hb hown (hts _ cl) (hts _ hinst) (hts _ hini) rfl d0 hrm.1 hrm.2 hKn.2.1 hH.2.1 fun H1 kC hkC e1 z1 o1 => ?_
  have hfs : jdef TX11 7 = [.null, .null, .null, .null, .null, .int 0, .int 0] := rfl
  have hva : va_at K1.1 jcl (hnew h, jO 11 [.null, .null, .null, .null, .null, .int 0, .int 0]) H1 := ⟨_, hc, (u_born ty hts hin hKn hkC e1 hty).to fun j hj => by
    rw [← hfs]
    unfold vp_V jdef
    rw [List.getD_eq_getElem?_getD, List.getElem?_map, List.getElem?_range hj]
    show _ = (match parseFieldDescriptor (TX11 j).2.2.1 with | some t => defaultValue t | none => .null)
    rw [hty j hj]⟩
  have hH1 : jH K1 (hpush h t (jO 11 [.null, .null, .null, .null, .null, .int 0, .int 0])) H1 := hH.push (by rw [z1, hH.2.1]) hva (by rw [hH.2.1]; exact o1) hr9
  have hfree : jFree (hnew h) 7 H1 := by
    obtain ⟨c9, k9, hc9, hk9, -, -, -, hn9⟩ := Cond.instantiable_spec (hts _ q2295)
    cases Option.some.inj (hc9.symm.trans hKn.2.1)
    cases Option.some.inj (hk9.symm.trans hkC)
    exact ⟨_, e1, rfl, rfl, by show (kC.instanceTypes.map defaultValue).size = 7; rw [Array.size_map]; exact hn9⟩
  refine lv_dup hx hb d3 rfl (ha H1 locs la _ _ _ hH1.2.2.1 hla ?_)
  have hg1 : jGr h1 (hpush h t (jO 11 [.null, .null, .null, .null, .null, .int 0, .int 0])) := hg.push t _
  have hgp : hget (hpush h t (jO 11 [.null, .null, .null, .null, .null, .int 0, .int 0])) (hnew h) = some (jO 11 [.null, .null, .null, .null, .null, .int 0, .int 0]) := hget_push_new _ _ _
  have hcnt1 : h.2.length - h1.2.length + 1 = (hpush h t (jO 11 [.null, .null, .null, .null, .null, .int 0, .int 0])).2.length - h1.2.length := by rw [hpush_len]; have := hg.2.1; omega
  have hcnt2 : hsl h - hsl h1 + 7 = hsl (hpush h t (jO 11 [.null, .null, .null, .null, .null, .int 0, .int 0])) - hsl h1 := by rw [hsl_push]; have := hg.2.2; show _ = hsl h + 7 - hsl h1; omega
  rw [hcnt1, hcnt2]
  intro T hT XS
  have hrm9 := jroom_k (lv := lv) hg1 hH1.2.2.2.2
  have hK9 := ct_backG (R := jroom lv h1) (p := p) (e := e) (below := below) (s := s) (sargs := args) (len := 3) (of_init F hl (n := n) hgp) F hW (jCW.of F ce_X11_init.1 ce_X11_init.2.1) hlv (by show _ ≤ 64 * lv; omega)
  obtain ⟨k0, k1, k2, k3, k4⟩ := lk
  have hD := vx_callI XS hx hown k0 (hts _ k1) (hts _ k2) (hts _ ce_X11_init.1) k3 hK9 (g := F0 m pc' la (.int n :: .ref (hnew h) :: .ref (hnew h) :: st)) rfl (show la.size = c.maxLocals by rw [hml, ← hnl]; exact hla.1) (a := hnew h) (argsL := [.int n]) (rest := .ref (hnew h) :: st) (fun sig q => k4 sig q) rfl (lv_room hrst) (by rw [hb]; exact d6) (fun vm₁ hW₁ => ⟨rfl, ⟨State.WarmedH.trans hW hW₁, by rw [← hT] at hH1; exact hH1⟩, hrm9.1, hrm9.2, by rw [← hT] at hfree; exact hfree⟩)
  exact jcall (stk := .int n :: .ref (hnew h) :: .ref (hnew h) :: st) (pc := pc') (len := 3) hlo hla hg1 (fun v h' z g => by
    obtain ⟨rfl, fs, f1, f2, rfl⟩ := z
    have hk := k fs f1 f2
    have he : hset (hpush h t (jO 11 [.null, .null, .null, .null, .null, .int 0, .int 0])) (hnew h) (jO 11 fs) = hpush h t (jO 11 fs) := hset_push_new _ _ _ _
    rw [he]
    exact hk) (fun _ _ _ z => z.elim) hD
end JR
