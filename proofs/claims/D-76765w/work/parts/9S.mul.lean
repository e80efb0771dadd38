/-! multianewarray: six rows of sixty longs -/
def mzF (a i : Nat) : Nat → Option Nat := fun j => if j < i then some (a + 1 + j) else none
def mzO (cO : ClassId) (a i : Nat) : Cell := arrV cO 6 (fun j => va_rf (mzF a i j))
def mzI (cI : ClassId) : Cell := arrV cI 60 (fun _ => .long 0)
def mz (S : State) (cO cI : ClassId) : Nat → State
  | 0 => S.pushCell (mzO cO S.heap.size 0)
  | i + 1 => ((mz S cO cI i).pushCell (mzI cI)).setCell S.heap.size (mzO cO S.heap.size (i + 1))
theorem mzO_next (cO : ClassId) (a i : Nat) : (mzO cO a i).setSlot i (.ref (a + 1 + i)) = mzO cO a (i + 1) := by
  unfold mzO
  rw [arrV_store]
  congr 1
  funext j
  unfold updV mzF
  by_cases h : j = i
  · rw [if_pos h, if_pos (by omega), h]; rfl
  · rw [if_neg h]
    show va_rf (if j < i then some (a + 1 + j) else none) = va_rf (if j < i + 1 then some (a + 1 + j) else none)
    by_cases h2 : j < i
    · rw [if_pos h2, if_pos (by omega)]
    · rw [if_neg h2, if_neg (by omega)]
theorem mz_facts (S : State) (cO cI : ClassId) : ∀ i, (mz S cO cI i).heap.size = S.heap.size + 1 + i ∧ (mz S cO cI i).heap[S.heap.size]? = some (mzO cO S.heap.size i) ∧ (mz S cO cI i).vm = S.vm ∧ (mz S cO cI i).slotsUsed = S.slotsUsed + 6 + i * 60 ∧ (∀ a, a < S.heap.size → (mz S cO cI i).heap[a]? = S.heap[a]?) ∧ ∀ j, j < i → (mz S cO cI i).heap[S.heap.size + 1 + j]? = some (mzI cI)
  | 0 => ⟨by simp [mz], by simp [mz], rfl, by simp [mz, mzO, arrV_size], fun a ha => State.heap_pushCell_of_lt _ _ ha, fun j h => absurd h (Nat.not_lt_zero _)⟩
  | i + 1 => by
    obtain ⟨h1, h2, h3, h4, h5, h6⟩ := mz_facts S cO cI i
    have hlt : S.heap.size < (mz S cO cI i).heap.size := by omega
    have hb' : ((mz S cO cI i).pushCell (mzI cI)).heap[S.heap.size]? = some (mzO cO S.heap.size i) := by rw [State.heap_pushCell_of_lt (h := hlt)]; exact h2
    refine ⟨?_, State.heap_setCell_self hb', by simp [mz, h3], ?_, fun a ha => ?_, fun j hj => ?_⟩
    · simp [mz, State.setCell, h1]; omega
    · simp [mz, h4, mzI, arrV_size, Nat.succ_mul]; omega
    · show (((mz S cO cI i).pushCell (mzI cI)).setCell S.heap.size _).heap[a]? = _
      rw [State.heap_setCell_other (Nat.ne_of_gt ha), State.heap_pushCell_of_lt (h := Nat.lt_trans ha hlt)]
      exact h5 a ha
    · show (((mz S cO cI i).pushCell (mzI cI)).setCell S.heap.size _).heap[S.heap.size + 1 + j]? = _
      rw [State.heap_setCell_other (by show S.heap.size ≠ S.heap.size + 1 + j; omega)]
      by_cases e : j = i
      · rw [e, ← h1]; exact State.heap_pushCell_size _ _
      · rw [State.heap_pushCell_of_lt (h := (by rw [h1]; exact Nat.add_lt_add_left (Nat.lt_of_le_of_ne (Nat.le_of_lt_succ hj) e) _ : S.heap.size + 1 + j < (mz S cO cI i).heap.size))]; exact h6 j (by omega)
theorem mz_top (S : State) (f : JFrame) (cO cI : ClassId) : ∀ i, mz (S.setTop f) cO cI i = (mz S cO cI i).setTop f
  | 0 => rfl
  | i + 1 => by simp only [mz, mz_top S f cO cI i, State.heap_setTop, State.pushCell_setTop, State.setCell_setTop]
section
variable {E : CtlPost} {e : Env} {d : Bool} {acts : List Action} {s : State}
theorem mz_new {c comp : ClassId} {k : Class} {type : FieldType} {len : Nat} {init : Value} (hk : s.vm.classes[c]? = some k) (hkind : k.kind = .array comp type)
    (hlimit : ¬ len > e.platform.arrayLengthLimit) (hheap : ¬ len * componentBytes type > e.platform.maxHeapBytes) (hfit : fits type init = true) (hdef : init.isDefault = true) {Q : Addr → Pre}
    (h1 : s.heap.size < e.platform.maxCells) (h2 : s.slotsUsed + len ≤ e.platform.maxSlots) (hq : Q s.heap.size d acts (s.pushCell (arrV c len (fun _ => init)))) : wp (Jvm.newArray c len init) Q E e d acts s := by
  have hfits : ∀ i v, (Array.replicate len init)[i]? = some v → s.fitsSlot c .none i v = true := by
    intro i v hv
    simp only [Array.getElem?_replicate] at hv
    split at hv
    · cases hv; simp [State.fitsSlot, State.slotType?, hk, hkind, hfit]
    · cases hv
  have hda : allocActs (Array.replicate len init) s.heap.size acts = acts := by
    have hall : ((Array.replicate len init).all (·.isDefault)) = true := by
      rw [Array.all_replicate]; split <;> simp [hdef]
    unfold allocActs; rw [if_pos hall]
  rw [← arrV_new] at hq
  simp only [Jvm.newArray, Jvm.arrayFits, wp_bind', W.ask, W.ite, hlimit, if_false, wp_pure', W.theClass, hk, hkind, hheap, W.alloc, W.stop, Option.some.injEq, exists_eq_left', Array.size_replicate, hda]
  rw [if_neg (by omega)]
  exact ⟨h1, h2, hfits, hq⟩
/-- one row -/
theorem mz_make1 {cI cc : ClassId} {kc : Class} (hkc : s.vm.classes[cI]? = some kc) (hkindc : kc.kind = .array cc .long) (hl2 : 100 ≤ e.platform.arrayLengthLimit) (hh2 : 1000 ≤ e.platform.maxHeapBytes)
    (h1 : s.heap.size < e.platform.maxCells) (h2 : s.slotsUsed + 60 ≤ e.platform.maxSlots) {Q : Addr → Pre} (hq : Q s.heap.size d acts (s.pushCell (mzI cI))) : wp (multianewarray.make cI [nI 60]) Q E e d acts s := by
  have hm : ¬ nI 60 < 0 := by decide
  have hc : (nI 60).toNatClampNeg = 60 := by decide
  rw [multianewarray.make]
  simp only [wp_bind', W.ite, hm, if_false, wp_pure', W.theClass, hkc, hkindc, Option.some.injEq, exists_eq_left', hc]
  exact mz_new hkc hkindc (by omega) (by show ¬ 60 * 8 > _; omega) rfl rfl h1 h2 hq
theorem mz_make2 {cO cI cc : ClassId} {k kc : Class} (hk : s.vm.classes[cO]? = some k) (hkind : k.kind = .array cI (.array .long)) (hkc : s.vm.classes[cI]? = some kc) (hkindc : kc.kind = .array cc .long)
    (hl2 : 100 ≤ e.platform.arrayLengthLimit) (hh2 : 1000 ≤ e.platform.maxHeapBytes) (hc : s.heap.size + 7 ≤ e.platform.maxCells) (hs : s.slotsUsed + 366 ≤ e.platform.maxSlots)
    {Q : Addr → Pre} (hq : ∀ d' acts', Q s.heap.size d' acts' (mz s cO cI 6)) : wp (multianewarray.make cO [nI 6, nI 60]) Q E e d acts s := by
  have hn : ¬ nI 6 < 0 := by decide
  have hm : ¬ nI 60 < 0 := by decide
  have hc6 : (nI 6).toNatClampNeg = 6 := by decide
  have hfind : ([nI 60].find? (· < 0)) = none := by decide
  rw [multianewarray.make]
  simp only [wp_bind', W.ite, hn, if_false, wp_pure', W.theClass, hk, hkind, Option.some.injEq, exists_eq_left', hc6]
  refine mz_new hk hkind (by omega) (by show ¬ 6 * 4 > _; omega) rfl rfl (by omega) (by omega) ?_
  simp only [hfind]
  rw [ite_self, wp_bind', Std.Legacy.Range.forIn_eq_forIn_range']
  show wp (forIn (List.range' 0 6 1) PUnit.unit _) _ E e d acts _
  refine wp_forIn_inv (fun rest s' => ∃ i, i ≤ 6 ∧ rest = List.range' i (6 - i) ∧ s' = mz s cO cI i) _ _ ⟨0, Nat.zero_le _, rfl, ?_⟩ ?_ ?_
  · show s.pushCell _ = s.pushCell _
    congr 1
  · rintro x rest s' d' acts' Q' ⟨i, hi, hl, rfl⟩ hnext
    have hlt : i < 6 := by
      rcases Nat.lt_or_ge i 6 with h | h
      · exact h
      · rw [show 6 - i = 0 from by omega] at hl; simp at hl
    obtain ⟨rfl, hrest⟩ : x = i ∧ rest = List.range' (i + 1) (6 - (i + 1)) := by
      rw [show 6 - i = (6 - (i + 1)) + 1 from by omega, List.range'_succ] at hl
      exact ⟨(List.cons.inj hl).1, (List.cons.inj hl).2⟩
    obtain ⟨f1, f2, f3, f4, f5, f6⟩ := mz_facts s cO cI x
    simp only [wp_bind']
    refine mz_make1 (by rw [f3]; exact hkc) hkindc hl2 hh2 (by rw [f1]; omega) (by rw [f4]; omega) ?_
    have hlt0 : s.heap.size < (mz s cO cI x).heap.size := by rw [f1]; omega
    simp only [wp_bind', W.writeLoc, wp_pure']
    refine ⟨mzO cO s.heap.size x, by rw [State.heap_pushCell_of_lt (h := hlt0)]; exact f2, (by unfold mzO arrV; simp), by unfold mzO; rw [arrV_size]; exact hlt, ?_, hnext _ _ _ ⟨x + 1, hlt, hrest, ?_⟩⟩
    · show State.fitsSlot _ cO .none x _ = true
      simp [State.fitsSlot, State.slotType?, f3, hk, hkind]
      rfl
    · rw [f1, mzO_next]; rfl
  · rintro s' d' acts' ⟨i, hi, hl, rfl⟩
    have hiN : i = 6 := by
      rcases Nat.lt_or_ge i 6 with h | h
      · rw [show 6 - i = (6 - (i + 1)) + 1 from by omega, List.range'_succ] at hl; cases hl
      · omega
    subst hiN
    simp only [wp_pure']
    exact hq _ _
end
theorem mz_stand {p : Program} {l : Launch} {e : Env} {R : Room} {s : State} {m : MethodId} {args : Array Value} {below : List Frame} {meth : Method} {c : Code} {T : State} {locs : List Loc} {cells slots : Nat} (X : Stand p l e R s m args below meth c T locs cells slots) (cO cI : ClassId) :
    ∀ i, Stand p l e R s m args below meth c (mz T cO cI i) (locs ++ (List.range i).map fun j => ⟨T.heap.size, j⟩) (cells + 1 + i) (slots + 6 + i * 60)
  | 0 => by
    have h := X.pushed (mzO cO T.heap.size 0)
    rw [show (mzO cO T.heap.size 0).slots.size = 6 from arrV_size _ _ _] at h
    simpa [mz] using h
  | i + 1 => by
    have Xi := mz_stand X cO cI i
    obtain ⟨f1, f2, f3, f4, f5, f6⟩ := mz_facts T cO cI i
    have hlt0 : T.heap.size < (mz T cO cI i).heap.size := by rw [f1]; omega
    have hcell : ((mz T cO cI i).pushCell (mzI cI)).heap[T.heap.size]? = some (mzO cO T.heap.size i) := by rw [State.heap_pushCell_of_lt (h := hlt0)]; exact f2
    have h := (Xi.pushed (mzI cI)).stored hcell i (.ref (T.heap.size + 1 + i))
    rw [show (mzI cI).slots.size = 60 from arrV_size _ _ _, mzO_next] at h
    have e2 : (locs ++ (List.range (i + 1)).map fun j => (⟨T.heap.size, j⟩ : Loc)) = (locs ++ (List.range i).map fun j => (⟨T.heap.size, j⟩ : Loc)) ++ [⟨T.heap.size, i⟩] := by simp [List.range_succ, List.append_assoc]
    have e3 : slots + 6 + (i + 1) * 60 = slots + 6 + i * 60 + 60 := by omega
    rw [e2, e3]
    exact h
/-- the ideal heap behind it -/
def hmz (K : JK) (h : JIH) (t : Nat) : Nat → JIH
  | 0 => hpush h t (jAR K 10 6 (fun i => some (hnew h + 1 + i)))
  | i + 1 => hpush (hmz K h t i) t (jAL K 60 (fun _ => 0))
theorem hmz_facts (K : JK) (h : JIH) (t : Nat) : ∀ i, hnew (hmz K h t i) = hnew h + 1 + i ∧ (hmz K h t i).1 = h.1 ∧ (hmz K h t i).2.length = h.2.length + 1 + i ∧ hsl (hmz K h t i) = hsl h + 6 + 60 * i ∧ (∀ a, a < hnew h → hget (hmz K h t i) a = hget h a ∧ htag (hmz K h t i) a = htag h a) ∧ hc (hmz K h t i) t (hnew h) (jAR K 10 6 (fun i => some (hnew h + 1 + i))) ∧ (∀ j, j < i → hc (hmz K h t i) t (hnew h + 1 + j) (jAL K 60 (fun _ => 0))) ∧ (∀ a, hnew h + 1 + i ≤ a → hget (hmz K h t i) a = none)
  | 0 => by
    refine ⟨hnew_push _ _ _, rfl, hpush_len _ _ _, hsl_push _ _ _, fun a ha => ⟨hget_push_ne _ _ (Nat.ne_of_lt ha), htag_push_ne _ _ (Nat.ne_of_lt ha)⟩, hc.new _ _ _, fun j h => absurd h (Nat.not_lt_zero _), fun a ha => ?_⟩
    cases e : hget (hmz K h t 0) a with
    | none => rfl
    | some x =>
      have h1 := hget_lt e
      have h2 : hnew (hmz K h t 0) = hnew h + 1 := hnew_push _ _ _
      omega
  | i + 1 => by
    obtain ⟨h1, h2, h3, h4, h5, h6, h7, h8⟩ := hmz_facts K h t i
    have e1 : hnew (hmz K h t (i + 1)) = hnew h + 1 + (i + 1) := by show hnew (hpush _ _ _) = _; rw [hnew_push, h1]; omega
    refine ⟨e1, h2, ?_, ?_, fun a ha => ?_, ?_, fun j hj => ?_, fun a ha => ?_⟩
    · show (hpush _ _ _).2.length = _; rw [hpush_len, h3]; omega
    · show hsl (hpush _ _ _) = _
      rw [hsl_push, h4]
      show hsl h + 6 + 60 * i + 60 = _
      omega
    · show hget (hpush _ _ _) a = _ ∧ htag (hpush _ _ _) a = _
      rw [hget_push_ne _ _ (by omega), htag_push_ne _ _ (by omega)]; exact h5 a ha
    · exact h6.push _ _
    · by_cases q : j = i
      · subst q
        have := hc.new (hmz K h t j) t (jAL K 60 (fun _ => 0))
        rw [h1] at this
        exact this
      · exact (h7 j (by omega)).push _ _
    · cases e : hget (hmz K h t (i + 1)) a with
      | none => rfl
      | some x => have := hget_lt e; omega
theorem mzO_6 (cO : ClassId) (a : Nat) : mzO cO a 6 = arrV cO 6 (fun j => va_rf (some (a + 1 + j))) := by
  unfold mzO arrV
  congr 1
section JR
variable {M : JM} {K : JK} {l0 : Launch} {cc : ByteArray} {own : String} {nL : Nat} {ret : Option FieldType} {nm : String} {hh : List (Nat × Nat × Nat × Nat)} {lv : Nat} {h0 : JIH} {QR : JQR} {QX : JQX} {h : JIH} {pc : Nat} {ls : List (Option Value)} {st : List Value}
theorem J.multi {idx : Nat} (t : Nat) (X : JX M K l0 cc own nL ret nm hh lv h0 QR QX) (hd : decode cc pc = .ok (.multianewarray idx 2, 4)) (cl : jCL own idx "[[J") (hr9 : hres h + 422 ≤ jRL) (k : J M (hmz K h t 6) (pc + 4) ls (.ref (hnew h) :: st)) : J M h pc ls (.int (nI 60) :: .int (nI 6) :: st) := by
  obtain ⟨K1, h1, R1, X1, p, l, e, R, s, m, args, below, meth, c⟩ := M
  obtain ⟨⟨rfl, rfl, rfl, rfl, rfl⟩, hx, hb, hml, hown, hr, hlk, hts, F, hW, hR, hs0, hb0, hnm, htab⟩ := X
  intro H locs la hH hlo hla hg T hT X9
  subst hR
  subst hT
  have hpl : e.platform.magicAccessors = ({} : Platform).magicAccessors := by rw [X9.admits.platform]
  have hKs := jK F hW
  have hnO : s.vm.findClass "[[J" = some (K1.2.1 10) := (hKs.2 10 _ rfl).2
  have hnI : s.vm.findClass "[J" = some (K1.2.1 3) := (hKs.2 3 _ rfl).2
  obtain ⟨-, kI, hkI, cmI, hkindI⟩ := (hKs.2 3 _ rfl).1 0 (fun _ => .null)
  obtain ⟨kA, hkA, hkindA⟩ : ∃ kA, s.vm.classes[K1.2.1 10]? = some kA ∧ kA.kind = .array (K1.2.1 3) (.array .long) := by
    obtain ⟨-, a0, g0, -⟩ := id F
    obtain ⟨comp, cA, kA, hcomp, -, hkA, hkindA, hnameA⟩ := arrayOverA_spec (g0 _ q2738)
    obtain ⟨k', hk', he⟩ := hW.alike.2.2 _ _ hkA
    cases Option.some.inj (((hW.alike.findClass _ _).symm.trans hnO).symm.trans hnameA)
    cases Option.some.inj (((hW.alike.findClass _ _).symm.trans hnI).symm.trans hcomp)
    exact ⟨k', hk', by rw [he]; exact hkindA⟩
  obtain ⟨c0, hfc0, hcl⟩ := Cond.classLink_spec hown (hts _ cl) e.platform hpl
  cases Option.some.inj (hnO.symm.trans hfc0)
  obtain ⟨hg₁, hwarm₁, hready₁⟩ := State.classEntry (e := e) X9.warmed hcl
  generalize T.vm.noted m.cls idx (.cls (K1.2.1 10)) = vm₁ at hg₁ hwarm₁ hready₁
  obtain ⟨kA₁, hkA₁, heA⟩ := hwarm₁.alike.2.2 _ _ hkA
  obtain ⟨kI₁, hkI₁, heI⟩ := hwarm₁.alike.2.2 _ _ hkI
  have X₁ := X9.noted hwarm₁
  have hrm := jroom_x (lv := lv) (k := 7) (n := 366) hg hr9
  obtain ⟨hr1, hr2⟩ := X9.roomAbove hrm.1 hrm.2
  have XF := mz_stand X₁ (K1.2.1 10) (K1.2.1 3) 6
  obtain ⟨f1, f2, f3, f4, f5, f6⟩ := mz_facts (T.setVm vm₁) (K1.2.1 10) (K1.2.1 3) 6
  obtain ⟨z1, z2, z3, z4, z5, z6, z7, z8⟩ := hmz_facts K1 h t 6
  have hsz : (T.setVm vm₁).heap.size = hnew h := hH.2.1
  have eres : hres (hmz K1 h t 6) = hres h + 422 := by
    show 8 * _ + _ = 8 * _ + _ + 422
    rw [z3, z4]; omega
  have hHn : jH K1 (hmz K1 h t 6) (mz (T.setVm vm₁) (K1.2.1 10) (K1.2.1 3) 6).heap := by
    refine ⟨by rw [z2]; exact hH.1, by rw [f1, z1, hsz], fun a e' ha => ?_, fun q hq => ?_, by rw [eres]; exact hr9⟩
    · by_cases q1 : a < hnew h
      · rw [(z5 a q1).1] at ha
        exact (hH.2.2.1 a e' ha).kept (f5 a (by rw [hsz]; exact q1))
      · by_cases q2 : a = hnew h
        · subst q2
          rw [z6.1] at ha
          cases ha
          show (mz (T.setVm vm₁) (K1.2.1 10) (K1.2.1 3) 6).heap[hnew h]? = some (arrV (K1.2.1 10) 6 (fun j => va_rf (some (hnew h + 1 + j))))
          rw [← hsz, f2, mzO_6]
        · by_cases q3 : a < hnew h + 7
          · obtain ⟨j, hj, rfl⟩ : ∃ j, j < 6 ∧ a = hnew h + 1 + j := ⟨a - hnew h - 1, by omega, by omega⟩
            rw [(z7 j hj).1] at ha
            cases ha
            show (mz (T.setVm vm₁) (K1.2.1 10) (K1.2.1 3) 6).heap[hnew h + 1 + j]? = some (arrV (K1.2.1 3) 60 (fun j => .long 0))
            rw [← hsz]; exact f6 j hj
          · rw [z8 a (by omega)] at ha; cases ha
    · rw [z2] at hq
      rw [f5 q (by rw [hsz]; unfold hnew; omega)]
      exact hH.2.2.2.1 q hq
  have hGn : jGr h1 (hmz K1 h t 6) := ⟨by rw [z2]; exact hg.1, by rw [z3]; have := hg.2.1; omega, by rw [z4]; have := hg.2.2; omega⟩
  have XF' : Stand p l e (jroom lv h1) s m args below meth c (mz (T.setVm vm₁) (K1.2.1 10) (K1.2.1 3) 6) (locs ++ (List.range 6).map fun j => ⟨(T.setVm vm₁).heap.size, j⟩) ((hmz K1 h t 6).2.length - h1.2.length) (hsl (hmz K1 h t 6) - hsl h1) := by
    rw [z3, z4]
    have a1 := hg.2.1
    have a2 := hg.2.2
    exact stand_widen XF (by omega) (by omega)
  obtain ⟨t9, a1, b1⟩ := k _ _ la hHn (fun q hq => by
    rcases List.mem_append.mp hq with hq | hq
    · exact hlo q hq
    · obtain ⟨j, -, rfl⟩ := List.mem_map.mp hq
      show h1.1 ≤ (T.setVm vm₁).heap.size
      rw [hsz, hg.1]; unfold hnew; omega) hla hGn _ rfl XF'
  refine ⟨t9, ?_, b1⟩
  have hdg : decode c.code pc = .ok (.multianewarray idx 2, 4) := by rw [hb]; exact hd
  have hl2 : 100 ≤ e.platform.arrayLengthLimit := by rw [Launch.admits_arrayLengthLimit X9.admits]; decide
  have hh2 : 1000 ≤ e.platform.maxHeapBytes := by rw [Launch.admits_maxHeapBytes X9.admits]; decide
  jvm_step X9.here [hx, hdg]
  simp only [multianewarray.sem, wp_bind', W.resolveClassAt_links (State.method?_setTop (F0 m pc la (.int (nI 60) :: .int (nI 6) :: st)) X9.here.top) hg₁]
  rw [W.popN, if_neg (by decide)]
  refine ⟨F0 m pc la (.int (nI 60) :: .int (nI 6) :: st), State.topJava?_setTop' (s := T.setVm vm₁) _ X9.here.top, [.int (nI 6), .int (nI 60)], st, rfl, rfl, ?_⟩
  simp only [List.mapM_cons, List.mapM_nil, wp_bind', wp_pure']
  refine mz_make2 (k := kA₁) (kc := kI₁) (cI := K1.2.1 3) (cc := cmI) hkA₁ (by rw [heA]; exact hkindA) hkI₁ (by rw [heI]; exact hkindI) hl2 hh2 (by show T.heap.size + 7 ≤ _; omega) (by show T.slotsUsed + 366 ≤ _; omega) (fun d' acts' => ?_)
  have eS : ((T.setTop (F0 m pc la (.int (nI 60) :: .int (nI 6) :: st))).setVm vm₁).setTop { F0 m pc la (.int (nI 60) :: .int (nI 6) :: st) with stack := st } = (T.setVm vm₁).setTop { F0 m pc la (.int (nI 60) :: .int (nI 6) :: st) with stack := st } := by
    show ((T.setVm vm₁).setTop _).setTop _ = _
    rw [State.setTop_setTop]
  rw [eS, mz_top]
  simp only [wp_bind', W.mark, W.pushRef, State.topJava?_setTop' _ XF.here.top, Option.some.injEq, exists_eq_left', State.setTop_setTop, State.heap_setTop]
  intro acts
  simp [jvm, XF.here.top]
  rw [show T.heap.size = hnew h from hsz]
  exact a1
end JR
