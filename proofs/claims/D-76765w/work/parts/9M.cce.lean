/-! the machine's ClassCastException: its text, its row -/
theorem jfind {vm : Vm} {nm : String} {c : ClassId} (h : vm.findClass nm = some c) : ∃ k : Class, vm.classes[c]? = some k ∧ k.name = nm ∧ k.hidden = none ∧ k.loader = none := by
  obtain ⟨hlt, hp, _⟩ := Array.findIdx?_eq_some_iff_getElem.mp h
  refine ⟨vm.classes[c], by simp [hlt], ?_⟩
  simp only [Bool.and_eq_true, beq_iff_eq] at hp
  exact ⟨hp.1.1.1, Option.isNone_iff_eq_none.mp hp.1.1.2, Option.isNone_iff_eq_none.mp hp.2⟩
theorem jshown {k : Class} (h : k.hidden = none) (hn : k.name.toList.length ≤ 2) : k.shown.toList.length ≤ 2 := by
  unfold Class.shown
  rw [h]
  show (String.ofList _).toList.length ≤ 2
  rw [String.toList_ofList, List.length_map]
  exact hn
theorem jhome {vm : Vm} {k : Class} (hm : (vm.modules.all fun m => m.loader.isSome || m.name == "java.base" || !(castPackages_1.any fun p => m.packages.contains p)) = true) (hl : k.loader = none) (hp : packageOf k.name = "") : (vm.home k).toList.length ≤ 50 := by
  have hname : ∀ m : ModuleInfo, vm.moduleOf k = some m → m.name = "java.base" := by
    intro m h
    unfold Vm.moduleOf at h
    split at h
    · have := List.find?_some h
      simpa using this
    · have h1 := List.find?_some h
      have h2 := List.mem_of_find?_eq_some h
      have h3 := List.all_eq_true.mp hm m h2
      simp only [Bool.and_eq_true, beq_iff_eq] at h1
      have h4 : m.loader = none := by rw [h1.1, hl]
      have h5 : (castPackages_1.any fun p => m.packages.contains p) = true := by
        rw [List.any_eq_true]
        exact ⟨"", List.mem_cons_self, by rw [← hp]; exact h1.2⟩
      rw [h4, h5] at h3
      simpa using h3
  have hlo : (vm.loaderName k.loader).toList.length = 11 := by rw [hl]; show ("'bootstrap'" : String).toList.length = 11; decide
  have e1 : (" of loader " : String).toList.length = 11 := by decide
  unfold Vm.home
  rw [String.toList_append, String.toList_append, List.length_append, List.length_append, hlo, e1]
  cases hmo : vm.moduleOf k with
  | none =>
    show ("unnamed module" : String).toList.length + 11 + 11 ≤ 50
    decide
  | some m =>
    show ("module " ++ m.name).toList.length + 11 + 11 ≤ 50
    rw [hname m hmo]
    decide
theorem tx_cce {vm : Vm} {a b : Class} (ha : a.shown.toList.length ≤ 2) (hb : b.shown.toList.length ≤ 2) (h1 : (vm.home a).toList.length ≤ 50) (h2 : (vm.home b).toList.length ≤ 50) : (checkcast.message vm a b == notModelled) = false ∧ (stringBytes (stringToUtf16 (checkcast.message vm a b))).size ≤ 900 := by
  have hh : (vm.homes a b).toList.length ≤ 130 := by
    unfold Vm.homes
    split
    · show (toString a.shown ++ toString " and " ++ toString b.shown ++ toString " are in " ++ toString (vm.home a)).toList.length ≤ 130
      simp only [String.toList_append, List.length_append]
      have e1 : (toString " and ").toList.length = 5 := by decide
      have e2 : (toString " are in ").toList.length = 8 := by decide
      have e3 : (toString a.shown).toList.length ≤ 2 := ha
      have e4 : (toString b.shown).toList.length ≤ 2 := hb
      have e5 : (toString (vm.home a)).toList.length ≤ 50 := h1
      omega
    · show (toString a.shown ++ toString " is in " ++ toString (vm.home a) ++ toString "; " ++ toString b.shown ++ toString " is in " ++ toString (vm.home b)).toList.length ≤ 130
      simp only [String.toList_append, List.length_append]
      have e1 : (toString " is in ").toList.length = 7 := by decide
      have e2 : (toString "; ").toList.length = 2 := by decide
      have e3 : (toString a.shown).toList.length ≤ 2 := ha
      have e4 : (toString b.shown).toList.length ≤ 2 := hb
      have e5 : (toString (vm.home a)).toList.length ≤ 50 := h1
      have e6 : (toString (vm.home b)).toList.length ≤ 50 := h2
      omega
  have ht : checkcast.message vm a b = toString "class " ++ toString a.shown ++ toString " cannot be cast to class " ++ toString b.shown ++ toString " (" ++ toString (vm.homes a b) ++ toString ")" := rfl
  refine ⟨?_, ?_⟩
  · rw [ht]
    refine tx_mod (c := 'c') (r := ("lass ".toList ++ (toString a.shown).toList ++ (toString " cannot be cast to class ").toList ++ (toString b.shown).toList ++ (toString " (").toList ++ (toString (vm.homes a b)).toList ++ (toString ")").toList)) ?_ (by decide)
    simp only [String.toList_append]
    rfl
  · have b1 := stringBytes_size_le (stringToUtf16 (checkcast.message vm a b))
    have b2 := utf16_size_le (checkcast.message vm a b)
    have b3 : (checkcast.message vm a b).toList.length ≤ 200 := by
      rw [ht]
      simp only [String.toList_append, List.length_append]
      have e1 : (toString "class ").toList.length = 6 := by decide
      have e2 : (toString " cannot be cast to class ").toList.length = 25 := by decide
      have e3 : (toString a.shown).toList.length ≤ 2 := ha
      have e4 : (toString b.shown).toList.length ≤ 2 := hb
      have e5 : (toString (vm.homes a b)).toList.length ≤ 130 := hh
      have e6 : (toString " (").toList.length = 2 := by decide
      have e7 : (toString ")").toList.length = 1 := by decide
      omega
    omega
section JR
variable {M : JM} {K : JK} {l0 : Launch} {cc : ByteArray} {own : String} {nL : Nat} {ret : Option FieldType} {nm : String} {hh : List (Nat × Nat × Nat × Nat)} {lv : Nat} {h0 : JIH} {QR : JQR} {QX : JQX} {h : JIH} {pc : Nat} {ls : List (Option Value)} {st : List Value}
theorem J.castAN {idx a t : Nat} {x : vp_A} {ty : FieldType} {nm8 nm9 : String} (X : JX M K l0 cc own nL ret nm hh lv h0 QR QX) (hd : decode cc pc = .ok (.checkcast idx, 3)) (cl : jCL own idx nm9) (ht : (jtys K)[t]? = some (K.2.1 t, ty)) (hn : ∀ U, va_RA U (K.2.1 t) ty → U.vm.findClass nm8 = some (K.2.1 t)) (hno : va_Nc nm8 nm9 K.2.2) (hf : hget h a = some (.inl (K.2.1 t, x))) (p8 : packageOf nm8 = "") (l8 : nm8.toList.length ≤ 2) (p9 : packageOf nm9 = "") (l9 : nm9.toList.length ≤ 2)
    (k : ∀ text, (text == notModelled) = false → (stringBytes (stringToUtf16 text)).size ≤ 900 → JN M h pc ls (.ref a :: st) "java/lang/ClassCastException" text) : J M h pc ls (.ref a :: st) := by
  obtain ⟨K1, h1, R1, X1, p, l, e, R, s, m, args, below, meth, c⟩ := M
  obtain ⟨⟨rfl, rfl, rfl, rfl, rfl⟩, hx, hb, hml, hown, hr, hlk, hts, F, hW, hR, hs0, hb0, hnm, htab⟩ := X
  intro H locs la hH hlo hla hg T hT X9
  obtain ⟨cell, g1, g2, g3⟩ := jarr (jK F hW) hH ht (hn _) hf
  obtain ⟨c0, t0, f1, f2, f3⟩ := hno.moved hW.alike
  cases Option.some.inj (g3.symm.trans f1)
  have hpl : e.platform.magicAccessors = ({} : Platform).magicAccessors := by rw [X9.admits.platform]
  obtain ⟨c', hc', hcl⟩ := Cond.classLink_spec hown (hts _ cl) e.platform hpl
  cases Option.some.inj (f2.symm.trans hc')
  obtain ⟨dk, _, _, kt0, hd9, _, _, _, _, hkt0, _, hopen⟩ := hcl.here
  have hcl₀ := X9.warmed.classLinks hcl
  have hW' : s.WarmedH (T.vm.noted m.cls idx (.cls t0)) := X9.warmed.noted hd9 hopen (State.rightAt_cls hcl)
  obtain ⟨ks, hks, n8, i8, o8⟩ := jfind f1
  obtain ⟨kt, hkt, n9, i9, o9⟩ := jfind f2
  obtain ⟨ks', hks', es⟩ := hW'.alike.2.2 _ _ hks
  obtain ⟨kt', hkt', et⟩ := hW'.alike.2.2 _ _ hkt
  have XN := X9.noted hW'
  have hmod : ((T.vm.noted m.cls idx (.cls t0)).modules.all fun m => m.loader.isSome || m.name == "java.base" || !(castPackages_1.any fun p => m.packages.contains p)) = true := by
    obtain ⟨-, a0, -, -, hm⟩ := F
    have e1 : (T.vm.noted m.cls idx (.cls t0)).modules = K1.2.2.vm.modules := by
      rw [(State.WarmedH.trans hW hW').alike.1]
    rw [e1]
    exact hm
  have b8 := jshown (k := ks') (by rw [es]; exact i8) (by rw [show ks'.name = nm8 by rw [es]; exact n8]; exact l8)
  have b9 := jshown (k := kt') (by rw [et]; exact i9) (by rw [show kt'.name = nm9 by rw [et]; exact n9]; exact l9)
  have m8 := jhome (k := ks') hmod (by rw [es]; exact o8) (by rw [show ks'.name = nm8 by rw [es]; exact n8]; exact p8)
  have m9 := jhome (k := kt') hmod (by rw [et]; exact o9) (by rw [show kt'.name = nm9 by rw [et]; exact n9]; exact p9)
  obtain ⟨tx1, tx2⟩ := tx_cce b8 b9 m8 m9
  obtain ⟨t9, st9, q9⟩ := k _ tx1 tx2 H locs la hH hlo hla hg (T.setVm (T.vm.noted m.cls idx (.cls t0))) hT XN
  refine ⟨t9, ?_, q9⟩
  have hdg : decode c.code pc = .ok (.checkcast idx, 3) := by rw [hb]; exact hd
  have hcell : T.heap[a]? = some cell := by rw [hT]; exact g1
  jvm_step X9.here [hx, hdg, checkcast.wp_cold (e := e) (s := T) (f := F0 m pc la (.ref a :: st)) X9.here.top rfl (resolveClass_links e.toSetting hcl₀) hcl₀.ready,
    checkcast.wp_ready (e := e) (s := T.setVm (T.vm.noted m.cls idx (.cls t0))) (f := F0 m pc la (.ref a :: st)) X9.here.top hcl₀.ready rfl]
  refine ⟨cell, hcell, VmData.noStatics_of g2, ks', hks', kt', hkt', ?_⟩
  have h9 : (T.vm.noted m.cls idx (Resolved.cls t0)).assignable cell.cls t0 = false := by rw [hW'.alike.assignable]; exact f3
  simp only [h9]
  exact st9
end JR
