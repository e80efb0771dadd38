/-! new, casts, returns, calls, throws -/
section JR
variable {M : JM} {K : JK} {l0 : Launch} {cc : ByteArray} {own : String} {nL : Nat} {ret : Option FieldType} {nm : String} {hh : List (Nat × Nat × Nat × Nat)} {lv : Nat} {h0 : JIH} {QR : JQR} {QX : JQX} {h : JIH} {pc : Nat} {ls : List (Option Value)} {st : List Value}
theorem jfinP {K1 : JK} {h1 : JIH} {R1 : JQR} {X1 : JQX} {p : Program} {l : Launch} {e : Env} {R : Room} {s : State} {m : MethodId} {args : Array Value} {below : List Frame} {meth : Method} {c : Code} {h : JIH} {H H1 : Heap} {locs : List Loc} {la : Array Slot} {pc t n : Nat} {e1 : va_E} {ls : List (Option Value)} {st : List Value}
    (kk : J (K1, h1, R1, X1, p, l, e, R, s, m, args, below, meth, c) (hpush h t e1) pc ls st) (hH : jH K1 h H) (hz : H1.size = H.size + 1) (hv : va_at K1.1 jcl (hnew h, e1) H1) (ho : ∀ q : Nat, q < H.size → H1[q]? = H[q]?) (hr : hres h + (8 + n) ≤ jRL) (he : esz e1 = n) (hg : jGr h1 h) (hlo : ∀ q ∈ locs, h1.1 ≤ q.base) (hla : jl la ls) :
    W p l e R s m args below meth c H1 locs (h.2.length - h1.2.length + 1) (hsl h - hsl h1 + n) (jQ K1 h1 R1 X1 below s) (F0 m pc la st) := by
  have k := kk H1 locs la (hH.push hz hv ho (by rw [he]; exact hr)) hlo hla (hg.push t e1)
  rw [hpush_len, hsl_push, he] at k
  have h2 := hg.2.1; have h3 := hg.2.2
  rw [show h.2.length + 1 - h1.2.length = h.2.length - h1.2.length + 1 by omega, show hsl h + n - hsl h1 = hsl h - hsl h1 + n by omega] at k
  exact k
/-- a class's own entry of a class -/
def jCL (own : String) (idx : Nat) (C : String) : Prop := Cond.classLink own idx C ∈ lw_all
def jdef (T : u_T) (N : Nat) : List Value := (List.range N).map fun k => match parseFieldDescriptor (T k).2.2.1 with
  | some t => defaultValue t
  | none => .null
theorem J.new {idx ci N : Nat} {C : String} {T : u_T} (t : Nat) {fs : List Value} (X : JX M K l0 cc own nL ret nm hh lv h0 QR QX) (hd : decode cc pc = .ok (.new idx, 3)) (hc : jcl[ci]? = some (C, T, N)) (cl : jCL own idx C) (hfs : jdef T N = fs) (hr9 : hres h + (8 + N) ≤ jRL) (k : J M (hpush h t (jO ci fs)) (pc + 3) ls (.ref (hnew h) :: st)) : J M h pc ls st := by
  obtain ⟨K1, h1, R1, X1, p, l, e, R, s, m, args, below, meth, c⟩ := M
  obtain ⟨⟨rfl, rfl, rfl, rfl, rfl⟩, hx, hb, hml, hown, hr, hlk, hts, F, hW, hR, hs0, hb0, hnm, htab⟩ := X
  intro H locs la hH hlo hla hg
  obtain ⟨hin, ⟨ty, hty⟩, hnm0, hinst, hini⟩ := jclok hc
  have hKn := (jK F hW).1 ci _ hc
  subst hR
  have hrm := jroom_c (lv := lv) hg hr9
  refine W.newcK hx hb hown (hts _ cl) (hts _ hinst) (hts _ hini) rfl hd hrm.1 hrm.2 hKn.2.1 hH.2.1 fun H1 kC hkC e1 z1 o1 => ?_
  have hlen : fs.length = N := by rw [← hfs]; simp [jdef]
  refine jfinP k hH (by rw [z1, hH.2.1]) ⟨_, hc, (u_born ty hts hin hKn hkC e1 hty).to fun j hj => ?_⟩ (by rw [hH.2.1]; exact o1) hr9 hlen hg hlo hla
  subst hfs
  unfold vp_V jdef
  rw [List.getD_eq_getElem?_getD, List.getElem?_map, List.getElem?_range hj]
  show _ = (match parseFieldDescriptor (T j).2.2.1 with | some t => defaultValue t | none => .null)
  rw [hty j hj]
theorem jarrE {U : State} {K : JK} (hK : va_K K.1 jcl (jtys K) U) {t : Nat} {ty : FieldType} {d : ClassId} (ht : (jtys K)[t]? = some (d, ty)) {cA : ClassId} (h : U.vm.findClass ("[" ++ ty.toString) = some cA) : d = cA := by
  have h1 := (hK.2 t _ ht).2
  cases ty with
  | object C =>
    obtain ⟨kA, comp, -, -, -, h4⟩ := h1
    exact Option.some.inj (h4.symm.trans h)
  | _ => exact Option.some.inj ((show U.vm.findClass _ = some d from h1).symm.trans h)

theorem J.newI {n : Nat} {i : Int32} (t : Nat) (X : JX M K l0 cc own nL ret nm hh lv h0 QR QX) (hd : decode cc pc = .ok (.newarray .int, 2)) (hw : Cond.arrayClass .int ∈ lw_all) (hi : i = nI n) (hn : n ≤ 100000) (hr9 : hres h + (8 + n) ≤ jRL) (k : J M (hpush h t (jA K 0 n (fun _ => 0))) (pc + 2) ls (.ref (hnew h) :: st)) : J M h pc ls (.int i :: st) := by
  obtain ⟨K1, h1, R1, X1, p, l, e, R, s, m, args, below, meth, c⟩ := M
  obtain ⟨⟨rfl, rfl, rfl, rfl, rfl⟩, hx, hb, hml, hown, hr, hlk, hts, F, hW, hR, hs0, hb0, hnm, htab⟩ := X
  intro H locs la hH hlo hla hg
  subst hi
  subst hR
  have hrm := jroom_c (lv := lv) hg hr9
  refine va_newaK (atype := .int) hx hb (hts _ hw) rfl hd rfl (nI_pos (by omega)) (nI_clamp (by omega)) (by show n * 4 ≤ _; omega) hrm.1 hrm.2 hH.2.1 fun H1 cA e1 z1 o1 hT hf => ?_
  have hcA := jarrE (jK F hW) (t := 0) (ty := .int) rfl hf
  subst hcA
  exact jfinP k hH (by rw [z1, hH.2.1]) e1 (by rw [hH.2.1]; exact o1) hr9 rfl hg hlo hla

theorem J.newB {n : Nat} {i : Int32} (t : Nat) (X : JX M K l0 cc own nL ret nm hh lv h0 QR QX) (hd : decode cc pc = .ok (.newarray .byte, 2)) (hw : Cond.arrayClass .byte ∈ lw_all) (hi : i = nI n) (hn : n ≤ 100000) (hr9 : hres h + (8 + n) ≤ jRL) (k : J M (hpush h t (jA K 1 n (fun _ => 0))) (pc + 2) ls (.ref (hnew h) :: st)) : J M h pc ls (.int i :: st) := by
  obtain ⟨K1, h1, R1, X1, p, l, e, R, s, m, args, below, meth, c⟩ := M
  obtain ⟨⟨rfl, rfl, rfl, rfl, rfl⟩, hx, hb, hml, hown, hr, hlk, hts, F, hW, hR, hs0, hb0, hnm, htab⟩ := X
  intro H locs la hH hlo hla hg
  subst hi
  subst hR
  have hrm := jroom_c (lv := lv) hg hr9
  refine va_newaK (atype := .byte) hx hb (hts _ hw) rfl hd rfl (nI_pos (by omega)) (nI_clamp (by omega)) (by show n * 1 ≤ _; omega) hrm.1 hrm.2 hH.2.1 fun H1 cA e1 z1 o1 hT hf => ?_
  have hcA := jarrE (jK F hW) (t := 1) (ty := .byte) rfl hf
  subst hcA
  exact jfinP k hH (by rw [z1, hH.2.1]) e1 (by rw [hH.2.1]; exact o1) hr9 rfl hg hlo hla

theorem J.newS {n : Nat} {i : Int32} (t : Nat) (X : JX M K l0 cc own nL ret nm hh lv h0 QR QX) (hd : decode cc pc = .ok (.newarray .short, 2)) (hw : Cond.arrayClass .short ∈ lw_all) (hi : i = nI n) (hn : n ≤ 100000) (hr9 : hres h + (8 + n) ≤ jRL) (k : J M (hpush h t (jA K 2 n (fun _ => 0))) (pc + 2) ls (.ref (hnew h) :: st)) : J M h pc ls (.int i :: st) := by
  obtain ⟨K1, h1, R1, X1, p, l, e, R, s, m, args, below, meth, c⟩ := M
  obtain ⟨⟨rfl, rfl, rfl, rfl, rfl⟩, hx, hb, hml, hown, hr, hlk, hts, F, hW, hR, hs0, hb0, hnm, htab⟩ := X
  intro H locs la hH hlo hla hg
  subst hi
  subst hR
  have hrm := jroom_c (lv := lv) hg hr9
  refine va_newaK (atype := .short) hx hb (hts _ hw) rfl hd rfl (nI_pos (by omega)) (nI_clamp (by omega)) (by show n * 2 ≤ _; omega) hrm.1 hrm.2 hH.2.1 fun H1 cA e1 z1 o1 hT hf => ?_
  have hcA := jarrE (jK F hW) (t := 2) (ty := .short) rfl hf
  subst hcA
  exact jfinP k hH (by rw [z1, hH.2.1]) e1 (by rw [hH.2.1]; exact o1) hr9 rfl hg hlo hla

theorem J.newZ {n : Nat} {i : Int32} (t : Nat) (X : JX M K l0 cc own nL ret nm hh lv h0 QR QX) (hd : decode cc pc = .ok (.newarray .boolean, 2)) (hw : Cond.arrayClass .boolean ∈ lw_all) (hi : i = nI n) (hn : n ≤ 100000) (hr9 : hres h + (8 + n) ≤ jRL) (k : J M (hpush h t (jA K 4 n (fun _ => 0))) (pc + 2) ls (.ref (hnew h) :: st)) : J M h pc ls (.int i :: st) := by
  obtain ⟨K1, h1, R1, X1, p, l, e, R, s, m, args, below, meth, c⟩ := M
  obtain ⟨⟨rfl, rfl, rfl, rfl, rfl⟩, hx, hb, hml, hown, hr, hlk, hts, F, hW, hR, hs0, hb0, hnm, htab⟩ := X
  intro H locs la hH hlo hla hg
  subst hi
  subst hR
  have hrm := jroom_c (lv := lv) hg hr9
  refine va_newaK (atype := .boolean) hx hb (hts _ hw) rfl hd rfl (nI_pos (by omega)) (nI_clamp (by omega)) (by show n * 1 ≤ _; omega) hrm.1 hrm.2 hH.2.1 fun H1 cA e1 z1 o1 hT hf => ?_
  have hcA := jarrE (jK F hW) (t := 4) (ty := .boolean) rfl hf
  subst hcA
  exact jfinP k hH (by rw [z1, hH.2.1]) e1 (by rw [hH.2.1]; exact o1) hr9 rfl hg hlo hla

theorem J.newL {n : Nat} {i : Int32} (t : Nat) (X : JX M K l0 cc own nL ret nm hh lv h0 QR QX) (hd : decode cc pc = .ok (.newarray .long, 2)) (hw : Cond.arrayClass .long ∈ lw_all) (hi : i = nI n) (hn : n ≤ 100000) (hr9 : hres h + (8 + n) ≤ jRL) (k : J M (hpush h t (jAL K n (fun _ => 0))) (pc + 2) ls (.ref (hnew h) :: st)) : J M h pc ls (.int i :: st) := by
  obtain ⟨K1, h1, R1, X1, p, l, e, R, s, m, args, below, meth, c⟩ := M
  obtain ⟨⟨rfl, rfl, rfl, rfl, rfl⟩, hx, hb, hml, hown, hr, hlk, hts, F, hW, hR, hs0, hb0, hnm, htab⟩ := X
  intro H locs la hH hlo hla hg
  subst hi
  subst hR
  have hrm := jroom_c (lv := lv) hg hr9
  refine va_newaK (atype := .long) hx hb (hts _ hw) rfl hd rfl (nI_pos (by omega)) (nI_clamp (by omega)) (by show n * 8 ≤ _; omega) hrm.1 hrm.2 hH.2.1 fun H1 cA e1 z1 o1 hT hf => ?_
  have hcA := jarrE (jK F hW) (t := 3) (ty := .long) rfl hf
  subst hcA
  exact jfinP k hH (by rw [z1, hH.2.1]) e1 (by rw [hH.2.1]; exact o1) hr9 rfl hg hlo hla

theorem J.newR {n tt idx : Nat} {i : Int32} {C : String} (t : Nat) (X : JX M K l0 cc own nL ret nm hh lv h0 QR QX) (hd : decode cc pc = .ok (.anewarray idx, 3)) (cl : jCL own idx C) (hw : Cond.arrayOver (.object C) ∈ lw_tbl) (ht : (jtys K)[tt]? = some (K.2.1 tt, .object C)) (hi : i = nI n) (hn : n ≤ 100000) (hr9 : hres h + (8 + n) ≤ jRL) (k : J M (hpush h t (jAR K tt n (fun _ => none))) (pc + 3) ls (.ref (hnew h) :: st)) : J M h pc ls (.int i :: st) := by
  obtain ⟨K1, h1, R1, X1, p, l, e, R, s, m, args, below, meth, c⟩ := M
  obtain ⟨⟨rfl, rfl, rfl, rfl, rfl⟩, hx, hb, hml, hown, hr, hlk, hts, F, hW, hR, hs0, hb0, hnm, htab⟩ := X
  intro H locs la hH hlo hla hg
  subst hi
  subst hR
  have hrm := jroom_c (lv := lv) hg hr9
  have hover : va_AO C s := by
    obtain ⟨-, a0, hh0, -⟩ := F
    exact va_AO.moved hW.alike (va_AO.of (hh0 _ hw))
  have hcl : (nI n).toNatClampNeg = n := nI_clamp (by omega)
  refine W.anew hx hb hown (hts _ cl) (va_AO.use hover) rfl hd rfl (nI_pos (by omega)) (by rw [hcl]; omega) hrm.1 (by rw [hcl]; exact hrm.2) fun cA kA comp f1 f2 f3 f4 => ?_
  rw [hcl]
  have hcA := jarrE (jK F hW) (t := tt) (ty := .object C) ht f1
  subst hcA
  have hz := hH.2.1
  show W p l e (jroom lv h1) s m args below meth c (H.push _) locs _ _ _ (F0 m (pc + 3) la (.ref H.size :: st))
  rw [hz]
  refine jfinP k hH (by rw [Array.size_push]) ?_ (fun q hq => by rw [Array.getElem?_push, if_neg (Nat.ne_of_lt hq)]) hr9 rfl hg hlo hla
  show (H.push _)[hnew h]? = some (vp_cell _ _)
  rw [← hz, Array.getElem?_push_size]
  exact congrArg some (arrV_new _ _ _)

theorem jcat_v (r : Option Nat) : (va_rf r).category = 1 := jref_cat (jref_rf r)
theorem J.objInit {idx : Nat} {a : Nat} (X : JX M K l0 cc own nL ret nm hh lv h0 QR QX) (hd : decode cc pc = .ok (.invokespecial idx, 3)) (hw : Cond.methodLink own idx objectInit ∈ lw_all) (hlv : 1 ≤ lv) (k : J M h (pc + 3) ls st) (hrst : (st.map fun v => v.category).sum ≤ 8 := by first | exact Nat.le_of_ble_eq_true rfl | (simp [jcat_v]; done)) (hnl : ls.length = nL := by rfl) : J M h pc ls (.ref a :: st) := by
  obtain ⟨K1, h1, R1, X1, p, l, e, R, s, m, args, below, meth, c⟩ := M
  obtain ⟨⟨rfl, rfl, rfl, rfl, rfl⟩, hx, hb, hml, hown, hr, hlk, hts, F, hW, hR, hs0, hb0, hnm, htab⟩ := X
  intro H locs la hH hlo hla hg
  subst hR
  have hoi : Cond.instanceMethod objectInit ∈ lw_all := q138
  have hoc : Cond.code objectInit ⟨#[0xb1]⟩ 1 none ∈ lw_all := q139
  have hrm := lv_room (m := m) (pc := pc) (ls := la) (rest := .ref a :: st) hrst
  refine W.objInit hx hb hown (hts _ hw) (hts _ hoi) (hts _ hoc) rfl (by rw [hml, ← hnl]; exact hla.1) rfl hd hlv (by show _ ≤ 64 * lv; omega) (k H locs la hH hlo hla hg)

/-- what a return gives -/
theorem jend {K1 : JK} {h1 : JIH} {R1 : JQR} {X1 : JQX} {p : Program} {l : Launch} {e : Env} {R : Room} {s : State} {m : MethodId} {args : Array Value} {below : List Frame} {meth : Method} {c : Code} {h : JIH} {H : Heap} {locs : List Loc} {r : Option Value} {g : JFrame}
    (hq : R1 r h) (hH : jH K1 h H) (hlo : ∀ q ∈ locs, h1.1 ≤ q.base) (hg : jGr h1 h)
    (w : ∀ (Qc : Array Value → State → Outcome → State → Prop) (free : Addr → Prop), (∀ t : State, t.heap = H → s.WarmedH t.vm → Qc args s (.returned r) t) → (∀ q ∈ locs, free q.base) → W p l e R s m args below meth c H locs (h.2.length - h1.2.length) (hsl h - hsl h1) (MQ below Qc args s (h.2.length - h1.2.length) (hsl h - hsl h1) free) g) :
    W p l e R s m args below meth c H locs (h.2.length - h1.2.length) (hsl h - hsl h1) (jQ K1 h1 R1 X1 below s) g := by
  intro T hT X
  obtain ⟨t, a1, o, b1, b2, ⟨b3, b4⟩, L, b5, b6⟩ := w (fun _ _ o t => o = .returned r ∧ t.heap = H) (fun q => h1.1 ≤ q) (fun t ht _ => ⟨rfl, ht⟩) hlo T hT X
  exact ⟨t, a1, o, b1, b2, Or.inl ⟨r, h, L, b3, hq, by rw [b4]; exact hH, hg, b5, b6⟩⟩
theorem J.ireturn {v : Int32} (X : JX M K l0 cc own nL (some .int) nm hh lv h0 QR QX) (hd : decode cc pc = .ok (.ireturn, 1)) (hq : QR (some (.int v)) h) : J M h pc ls [.int v] := by
  obtain ⟨K1, h1, R1, X1, p, l, e, R, s, m, args, below, meth, c⟩ := M
  obtain ⟨⟨rfl, rfl, rfl, rfl, rfl⟩, hx, hb, hml, hown, hr, hlk, hts, F, hW, hR, hs0, hb0, hnm, htab⟩ := X
  intro H locs la hH hlo hla hg
  exact jend hq hH hlo hg fun Qc free h8 h9 => W.iret hx hb hr h8 h9 hd
theorem J.lreturn {v : Int64} (X : JX M K l0 cc own nL (some .long) nm hh lv h0 QR QX) (hd : decode cc pc = .ok (.lreturn, 1)) (hq : QR (some (.long v)) h) : J M h pc ls [.long v] := by
  obtain ⟨K1, h1, R1, X1, p, l, e, R, s, m, args, below, meth, c⟩ := M
  obtain ⟨⟨rfl, rfl, rfl, rfl, rfl⟩, hx, hb, hml, hown, hr, hlk, hts, F, hW, hR, hs0, hb0, hnm, htab⟩ := X
  intro H locs la hH hlo hla hg
  exact jend hq hH hlo hg fun Qc free h8 h9 => W.lret hx hb hr h8 h9 hd
theorem J.zreturn {v : Int32} {ty : FieldType} (X : JX M K l0 cc own nL (some ty) nm hh lv h0 QR QX) (hd : decode cc pc = .ok (.ireturn, 1)) (hn : narrow ty (.int v) = .int v) (hq : QR (some (.int v)) h) : J M h pc ls [.int v] := by
  obtain ⟨K1, h1, R1, X1, p, l, e, R, s, m, args, below, meth, c⟩ := M
  obtain ⟨⟨rfl, rfl, rfl, rfl, rfl⟩, hx, hb, hml, hown, hr, hlk, hts, F, hW, hR, hs0, hb0, hnm, htab⟩ := X
  intro H locs la hH hlo hla hg
  exact jend hq hH hlo hg fun Qc free h8 h9 => W.zret hx hb hr hn h8 h9 hd
theorem J.vreturn (X : JX M K l0 cc own nL none nm hh lv h0 QR QX) (hd : decode cc pc = .ok (.return_, 1)) (hq : QR none h) : J M h pc ls [] := by
  obtain ⟨K1, h1, R1, X1, p, l, e, R, s, m, args, below, meth, c⟩ := M
  obtain ⟨⟨rfl, rfl, rfl, rfl, rfl⟩, hx, hb, hml, hown, hr, hlk, hts, F, hW, hR, hs0, hb0, hnm, htab⟩ := X
  intro H locs la hH hlo hla hg
  exact jend hq hH hlo hg fun Qc free h8 h9 => W.vret hx hb hr h8 h9 hd
theorem J.areturnO {v : Value} {nO : String} (X : JX M K l0 cc own nL (some (.object nO)) nm hh lv h0 QR QX) (hd : decode cc pc = .ok (.areturn, 1)) (hq : QR (some v) h) (hv : jref v = true := by first | rfl | exact jref_rf _) : J M h pc ls [v] := by
  obtain ⟨K1, h1, R1, X1, p, l, e, R, s, m, args, below, meth, c⟩ := M
  obtain ⟨⟨rfl, rfl, rfl, rfl, rfl⟩, hx, hb, hml, hown, hr, hlk, hts, F, hW, hR, hs0, hb0, hnm, htab⟩ := X
  intro H locs la hH hlo hla hg
  exact jend hq hH hlo hg fun Qc free h8 h9 => W.aret hx hb hr (Or.inl ⟨_, rfl⟩) (by cases v <;> first | exact Or.inl rfl | exact Or.inr ⟨_, rfl⟩ | cases hv) h8 h9 hd
theorem J.areturnA {v : Value} {nO : FieldType} (X : JX M K l0 cc own nL (some (.array nO)) nm hh lv h0 QR QX) (hd : decode cc pc = .ok (.areturn, 1)) (hq : QR (some v) h) (hv : jref v = true := by first | rfl | exact jref_rf _) : J M h pc ls [v] := by
  obtain ⟨K1, h1, R1, X1, p, l, e, R, s, m, args, below, meth, c⟩ := M
  obtain ⟨⟨rfl, rfl, rfl, rfl, rfl⟩, hx, hb, hml, hown, hr, hlk, hts, F, hW, hR, hs0, hb0, hnm, htab⟩ := X
  intro H locs la hH hlo hla hg
  exact jend hq hH hlo hg fun Qc free h8 h9 => W.aret hx hb hr (Or.inr ⟨_, rfl⟩) (by cases v <;> first | exact Or.inl rfl | exact Or.inr ⟨_, rfl⟩ | cases hv) h8 h9 hd
def jRv (P : JIH → Prop) : JQR := fun v h' => v = none ∧ P h'
def jRi (P : Int32 → JIH → Prop) : JQR := fun v h' => ∃ r : Int32, v = some (.int r) ∧ P r h'
def jRl (P : Int64 → JIH → Prop) : JQR := fun v h' => ∃ r : Int64, v = some (.long r) ∧ P r h'
def jRa (P : Option Nat → JIH → Prop) : JQR := fun v h' => ∃ r : Option Nat, v = some (va_rf r) ∧ P r h'
theorem jRv.of {P : JIH → Prop} {h' : JIH} (p : P h') : jRv P none h' := ⟨rfl, p⟩
theorem jRi.of {P : Int32 → JIH → Prop} {r : Int32} {h' : JIH} (p : P r h') : jRi P (some (.int r)) h' := ⟨r, rfl, p⟩
theorem jRl.of {P : Int64 → JIH → Prop} {r : Int64} {h' : JIH} (p : P r h') : jRl P (some (.long r)) h' := ⟨r, rfl, p⟩
theorem jRa.of {P : Option Nat → JIH → Prop} {r : Option Nat} {h' : JIH} (p : P r h') : jRa P (some (va_rf r)) h' := ⟨r, rfl, p⟩
theorem jRa.ofR {P : Option Nat → JIH → Prop} {a : Nat} {h' : JIH} (p : P (some a) h') : jRa P (some (.ref a)) h' := ⟨some a, rfl, p⟩
theorem jRa.ofN {P : Option Nat → JIH → Prop} {h' : JIH} (p : P none h') : jRa P (some .null) h' := ⟨none, rfl, p⟩
/-- behind a call -/
theorem jcall {K1 : JK} {h1 : JIH} {R1 : JQR} {X1 : JQX} {p : Program} {l : Launch} {e : Env} {R : Room} {s : State} {m : MethodId} {args : Array Value} {below : List Frame} {meth : Method} {c : Code} {h : JIH} {T : State} {locs : List Loc} {la : Array Slot} {pc len : Nat} {ls : List (Option Value)} {stk st : List Value} {QR' : JQR} {QX' : JQX} {av : Array Value}
    (hlo : ∀ q ∈ locs, h1.1 ≤ q.base) (hla : jl la ls) (hg : jGr h1 h)
    (kr : ∀ (v : Option Value) (h' : JIH), QR' v h' → jGr h h' → J (K1, h1, R1, X1, p, l, e, R, s, m, args, below, meth, c) h' (pc + len) ls (v.toList ++ st))
    (kx : ∀ (x : Nat) (E : String) (h' : JIH), QX' x E h' → jGr h h' → JT (K1, h1, R1, X1, p, l, e, R, s, m, args, below, meth, c) h' pc ls x E)
    (d : (∃ (v : Option Value) (vm₁ : Vm) (B : Pt), s.WarmedH vm₁ ∧ Stand p l e R s m args below meth c B.U B.locs B.cells B.slots ∧ jPB K1 h QR' ⟨T.setVm vm₁, locs, h.2.length - h1.2.length, hsl h - hsl h1⟩ av v B ∧
      ∀ target, Steps p.tables e below (B.U.setTop { F0 m pc la stk with pc := (F0 m pc la stk).pc + len, stack := v.toList ++ st }) target → Steps p.tables e below (T.setTop (F0 m pc la stk)) target) ∨
    (∃ (q : Addr) (vm₁ : Vm) (B : Pt), s.WarmedH vm₁ ∧ Stand p l e R s m args below meth c B.U B.locs B.cells B.slots ∧ jPX K1 h QX' ⟨T.setVm vm₁, locs, h.2.length - h1.2.length, hsl h - hsl h1⟩ av q B ∧
      Steps p.tables e below (T.setTop (F0 m pc la stk)) ((B.U.setTop { F0 m pc la stk with stack := st }).pushFrame (.throwing q)))) :
    ∃ t, Steps p.tables e below (T.setTop (F0 m pc la stk)) t ∧ jQ K1 h1 R1 X1 below s t := by
  have a1 := hg.2.1; have a2 := hg.2.2; have a3 := hg.1
  rcases d with ⟨v, vm₁, ⟨U, L2, c2, s2⟩, hW₁, X', ⟨h', L, hq, hH', hgr, e1, hL, e2, e3⟩, st9⟩ | ⟨x, vm₁, ⟨U, L2, c2, s2⟩, hW₁, X', ⟨h', L, E, hq, hgx, hH', hgr, e1, hL, e2, e3⟩, st9⟩
  · dsimp only [Pt.U, Pt.locs, Pt.cells, Pt.slots] at X' hH' e1 e2 e3 st9
    have a4 := hgr.2.1; have a5 := hgr.2.2
    subst e1
    have X' : Stand p l e R s m args below meth c U (locs ++ L) (h'.2.length - h1.2.length) (hsl h' - hsl h1) := by
      rw [show h'.2.length - h1.2.length = c2 by omega, show hsl h' - hsl h1 = s2 by omega]; exact X'
    obtain ⟨t, b1, b2⟩ := kr v h' hq hgr U.heap (locs ++ L) la hH' (fun q hm => (List.mem_append.mp hm).elim (hlo q) (fun z => by rw [a3]; exact hL q z)) hla (hg.tr hgr) U rfl X'
    exact ⟨t, st9 t b1, b2⟩
  · dsimp only [Pt.U, Pt.locs, Pt.cells, Pt.slots] at X' hH' hgx e1 e2 e3 st9
    have a4 := hgr.2.1; have a5 := hgr.2.2
    subst e1
    have X' : Stand p l e R s m args below meth c U (locs ++ L) (h'.2.length - h1.2.length) (hsl h' - hsl h1) := by
      rw [show h'.2.length - h1.2.length = c2 by omega, show hsl h' - hsl h1 = s2 by omega]; exact X'
    obtain ⟨t, b1, b2⟩ := kx x E h' hq hgr U.heap (locs ++ L) la st hH' (fun q hm => (List.mem_append.mp hm).elim (hlo q) (fun z => by rw [a3]; exact hL q z)) hla (hg.tr hgr) hgx U rfl X'
    exact ⟨t, st9.trans b1, b2⟩
theorem jcell {K1 : JK} {h : JIH} {H : Heap} {ci a : Nat} {fs : List Value} {r : vw_C} {U : State} (hK : va_K K1.1 jcl (jtys K1) U) (hH : jH K1 h H) (hc : jcl[ci]? = some r) (hf : hget h a = some (jO ci fs)) : ∃ cell : Cell, H[a]? = some cell ∧ cell.vm.isStatics = false ∧ U.vm.findClass r.1 = some cell.cls := by
  obtain ⟨q0, he⟩ := hL_of hf
  exact va_recv hK hH.2.2.1.va hc he
def jMH (y : MethodName) : Prop := y.cls ≠ "java/lang/invoke/MethodHandle" ∧ y.cls ≠ "java/lang/invoke/VarHandle"
def jNp (y : MethodName) (n : Nat) : Prop := ∀ sig, parseMethodDescriptor y.desc = some sig → n = sig.parameters.length
/-- the callee's own words -/
def jCe (y : MethodName) (b : ByteArray) (maxL : Nat) (rt : Option FieldType) : Prop := Cond.code y b maxL rt ∈ lw_all ∧ Cond.initialized y.cls ∈ lw_all ∧ maxL ≤ 40
def jCeW (y : MethodName) (b : ByteArray) (maxL : Nat) (rt : Option FieldType) (h9 : List (Nat × Nat × Nat × Nat)) : Prop := Cond.codeWith y b maxL rt h9 ∈ lw_all ∧ Cond.initialized y.cls ∈ lw_all ∧ maxL ≤ 40
/-- the link's words: virtual; static; constructor; private or nest mate; inherited; interface -/
def jLkV (own : String) (idx : Nat) (y : MethodName) (C : String) (n : Nat) : Prop := Cond.methodLink own idx y ∈ lw_all ∧ Cond.instanceMethod y ∈ lw_all ∧ Cond.selects C y y ∈ lw_all ∧ jMH y ∧ jNp y n
def jLkS (own : String) (idx : Nat) (y : MethodName) (n : Nat) : Prop := Cond.methodLink own idx y ∈ lw_all ∧ Cond.static y ∈ lw_all ∧ jMH y ∧ jNp y n
def jLkI (own : String) (idx : Nat) (y : MethodName) (n : Nat) : Prop := y.name = "<init>" ∧ Cond.methodLink own idx y ∈ lw_all ∧ Cond.instanceMethod y ∈ lw_all ∧ jMH y ∧ jNp y n
def jLkVN (own : String) (idx : Nat) (y : MethodName) (C : String) (n : Nat) : Prop := (∃ host, Cond.methodLinkNest own idx y host ∈ lw_tbl) ∧ Cond.instanceMethod y ∈ lw_all ∧ Cond.selects C y y ∈ lw_all ∧ jMH y ∧ jNp y n
def jLkSN (own : String) (idx : Nat) (y : MethodName) (n : Nat) : Prop := (∃ host, Cond.methodLinkNest own idx y host ∈ lw_tbl) ∧ Cond.static y ∈ lw_all ∧ jMH y ∧ jNp y n
def jLkIN (own : String) (idx : Nat) (y : MethodName) (n : Nat) : Prop := y.name = "<init>" ∧ (∃ host, Cond.methodLinkNest own idx y host ∈ lw_tbl) ∧ Cond.instanceMethod y ∈ lw_all ∧ jMH y ∧ jNp y n
def jLkU (own : String) (idx : Nat) (x y : MethodName) (C : String) (n : Nat) : Prop := ∃ owner : String, Cond.methodLink own idx x ∈ lw_all ∧ Cond.sameMethod x.cls owner x.name x.desc ∈ lw_all ∧ (Cond.declares ⟨owner, x.name, x.desc⟩ ∈ lw_tbl ∨ (Cond.instanceMethod ⟨owner, x.name, x.desc⟩ ∈ lw_all ∧ ∃ b m r, Cond.code ⟨owner, x.name, x.desc⟩ b m r ∈ lw_all)) ∧ (owner ≠ "java/lang/invoke/MethodHandle" ∧ owner ≠ "java/lang/invoke/VarHandle") ∧ Cond.selects C x y ∈ lw_all ∧ Cond.instanceMethod y ∈ lw_all ∧ jNp x n
def jLkSU (own : String) (idx : Nat) (y : MethodName) (n : Nat) : Prop := Cond.methodLink own idx y ∈ lw_all ∧ Cond.sameMethod y.cls y.cls y.name y.desc ∈ lw_all ∧ Cond.superclass own y.cls ∈ lw_all ∧ Cond.instanceMethod y ∈ lw_all ∧ y.name ≠ "<init>" ∧ jNp y n
def jLkF (own : String) (idx : Nat) (x y : MethodName) (C : String) (n : Nat) : Prop := Cond.methodLink own idx x ∈ lw_all ∧ Cond.declares x ∈ lw_tbl ∧ Cond.interfaceMethod x.cls x.cls x.name x.desc ∈ lw_tbl ∧ Cond.selects C x y ∈ lw_all ∧ Cond.instanceMethod y ∈ lw_all ∧ Cond.publicMethod y ∈ lw_tbl ∧ Cond.unhidden C x.name x.desc ∈ lw_tbl ∧ Cond.castable C x.cls ∈ lw_tbl ∧ jMH x ∧ jNp x n
theorem jDecl {K1 : JK} (F : JF K1) {s : State} (hW : K1.2.2.WarmedH s.vm) {z : MethodName} (h : Cond.declares z ∈ lw_tbl ∨ (Cond.instanceMethod z ∈ lw_all ∧ ∃ b m r, Cond.code z b m r ∈ lw_all)) : va_Decl s z := by
  rcases h with h | ⟨h, b, m, r, h2⟩
  · obtain ⟨-, a0, g, -⟩ := id F
    exact va_Decl.abs (va_Nw.warmD hW (va_Nw.of rfl (g _ h)))
  · exact va_Decl.of (args := #[]) (jgood F hW h _) (jgood F hW h2 _)
theorem jFw {K1 : JK} (F : JF K1) {s : State} (hW : K1.2.2.WarmedH s.vm) {C : String} {x y : MethodName} (hx : jMH x) (h1 : Cond.declares x ∈ lw_tbl) (h2 : Cond.interfaceMethod x.cls x.cls x.name x.desc ∈ lw_tbl) (h3 : Cond.publicMethod y ∈ lw_tbl) (h4 : Cond.unhidden C x.name x.desc ∈ lw_tbl) (h5 : Cond.castable C x.cls ∈ lw_tbl) : va_Fw C x y s := by
  obtain ⟨-, a0, g, -⟩ := id F
  exact va_Fw.moved hx hW.alike (va_Fw.of (g _ h1) (g _ h2) (g _ h3) (g _ h4) (g _ h5))
theorem J.callV_ {idx : Nat} {y : MethodName} {b9 : ByteArray} {maxL lv' : Nat} {rt : Option FieldType} {As stk : List Value} {QR' : JQR} {QX' : JQX} {a : Nat} {ci : Nat} {fs : List Value} {C : String} {T9 : u_T} {N9 : Nat} (X : JX M K l0 cc own nL ret nm hh lv h0 QR QX) (hd : decode cc pc = .ok (.invokevirtual idx, 3)) (lk : jLkV own idx y C As.length) (ce : jCe y b9 maxL rt) (hM : Ct K l0 y (ws_ y b9 maxL rt) lv' (.ref a :: As) h QR' QX') (hlv : lv' + 1 ≤ lv) (hc : jcl[ci]? = some (C, T9, N9)) (hrv : hget h a = some (jO ci fs)) (hst : stk = As.reverse ++ .ref a :: st) (hrst : (st.map fun v => v.category).sum ≤ 8 := by first | exact Nat.le_of_ble_eq_true rfl | (simp [jcat_v]; done)) (hnl : ls.length = nL := by rfl)
    (kr : ∀ (v : Option Value) (h' : JIH), QR' v h' → jGr h h' → J M h' (pc + 3) ls (v.toList ++ st)) (kx : ∀ (x : Nat) (E : String) (h' : JIH), QX' x E h' → jGr h h' → JT M h' pc ls x E) : J M h pc ls stk := by
  obtain ⟨K1, h1, R1, X1, p, l, e, R, s, m, args, below, meth, c⟩ := M
  obtain ⟨⟨rfl, rfl, rfl, rfl, rfl⟩, hx, hb, hml, hown, hr, hlk, hts, F, hW, hR, hs0, hb0, hnm, htab⟩ := X
  intro H locs la hH hlo hla hg
  subst hR
  subst hst
  intro T hT XS
  obtain ⟨ce1, ce2, ce3⟩ := ce
  have hrm := jroom_k (lv := lv) hg hH.2.2.2.2
  have hK9 := ct_back (R := jroom lv h1) (p := p) (e := e) (below := below) (s := s) (sargs := args) (len := 3) hM F hW (jCW.of F ce1 ce2) hlv (by show _ ≤ 64 * lv; omega)
  obtain ⟨cellB, g1, g2, g3⟩ := jcell (jK F hW) hH hc hrv
  rw [← hT] at g1
  obtain ⟨k1, k2, k3, k4, k5⟩ := lk
  exact jcall hlo hla hg kr kx (vx_callV XS hx hown (hts _ k1) (hts _ k2) (hts _ k3) (hts _ ce1) k4 hK9 g1 g2 g3 rfl (show la.size = c.maxLocals by rw [hml, ← hnl]; exact hla.1) (argsL := As) (rest := st) (fun sig q => k5 sig q) rfl (lv_room hrst) (by rw [hb]; exact hd) (fun vm₁ hW₁ => ⟨rfl, ⟨State.WarmedH.trans hW hW₁, by rw [← hT] at hH; exact hH⟩, hrm.1, hrm.2⟩))
theorem J.callVv {idx : Nat} {y : MethodName} {b9 : ByteArray} {maxL lv' : Nat} {rt : Option FieldType} {As stk : List Value} {a : Nat} {ci : Nat} {fs : List Value} {C : String} {T9 : u_T} {N9 : Nat} {P : JIH → Prop} (X : JX M K l0 cc own nL ret nm hh lv h0 QR QX) (hd : decode cc pc = .ok (.invokevirtual idx, 3)) (lk : jLkV own idx y C As.length) (ce : jCe y b9 maxL rt) (hM : Ct K l0 y (ws_ y b9 maxL rt) lv' (.ref a :: As) h (jRv P) jNo) (hlv : lv' + 1 ≤ lv) (hc : jcl[ci]? = some (C, T9, N9)) (hrv : hget h a = some (jO ci fs)) (hst : stk = As.reverse ++ .ref a :: st)
    (kr : ∀ (h' : JIH), P h' → jGr h h' → J M h' (pc + 3) ls (st)) (hrst : (st.map fun v => v.category).sum ≤ 8 := by first | exact Nat.le_of_ble_eq_true rfl | (simp [jcat_v]; done)) (hnl : ls.length = nL := by rfl) : J M h pc ls stk :=
  J.callV_ X hd lk ce hM hlv hc hrv hst hrst hnl (fun v h' z g => by obtain ⟨rfl, q⟩ := z; exact kr h' q g) (fun _ _ _ z => z.elim)
theorem J.callVi {idx : Nat} {y : MethodName} {b9 : ByteArray} {maxL lv' : Nat} {rt : Option FieldType} {As stk : List Value} {a : Nat} {ci : Nat} {fs : List Value} {C : String} {T9 : u_T} {N9 : Nat} {P : Int32 → JIH → Prop} (X : JX M K l0 cc own nL ret nm hh lv h0 QR QX) (hd : decode cc pc = .ok (.invokevirtual idx, 3)) (lk : jLkV own idx y C As.length) (ce : jCe y b9 maxL rt) (hM : Ct K l0 y (ws_ y b9 maxL rt) lv' (.ref a :: As) h (jRi P) jNo) (hlv : lv' + 1 ≤ lv) (hc : jcl[ci]? = some (C, T9, N9)) (hrv : hget h a = some (jO ci fs)) (hst : stk = As.reverse ++ .ref a :: st)
    (kr : ∀ (r : Int32) (h' : JIH), P r h' → jGr h h' → J M h' (pc + 3) ls (.int r :: st)) (hrst : (st.map fun v => v.category).sum ≤ 8 := by first | exact Nat.le_of_ble_eq_true rfl | (simp [jcat_v]; done)) (hnl : ls.length = nL := by rfl) : J M h pc ls stk :=
  J.callV_ X hd lk ce hM hlv hc hrv hst hrst hnl (fun v h' z g => by obtain ⟨r, rfl, q⟩ := z; exact kr r h' q g) (fun _ _ _ z => z.elim)
theorem J.callVl {idx : Nat} {y : MethodName} {b9 : ByteArray} {maxL lv' : Nat} {rt : Option FieldType} {As stk : List Value} {a : Nat} {ci : Nat} {fs : List Value} {C : String} {T9 : u_T} {N9 : Nat} {P : Int64 → JIH → Prop} (X : JX M K l0 cc own nL ret nm hh lv h0 QR QX) (hd : decode cc pc = .ok (.invokevirtual idx, 3)) (lk : jLkV own idx y C As.length) (ce : jCe y b9 maxL rt) (hM : Ct K l0 y (ws_ y b9 maxL rt) lv' (.ref a :: As) h (jRl P) jNo) (hlv : lv' + 1 ≤ lv) (hc : jcl[ci]? = some (C, T9, N9)) (hrv : hget h a = some (jO ci fs)) (hst : stk = As.reverse ++ .ref a :: st)
    (kr : ∀ (r : Int64) (h' : JIH), P r h' → jGr h h' → J M h' (pc + 3) ls (.long r :: st)) (hrst : (st.map fun v => v.category).sum ≤ 8 := by first | exact Nat.le_of_ble_eq_true rfl | (simp [jcat_v]; done)) (hnl : ls.length = nL := by rfl) : J M h pc ls stk :=
  J.callV_ X hd lk ce hM hlv hc hrv hst hrst hnl (fun v h' z g => by obtain ⟨r, rfl, q⟩ := z; exact kr r h' q g) (fun _ _ _ z => z.elim)
theorem J.callVa {idx : Nat} {y : MethodName} {b9 : ByteArray} {maxL lv' : Nat} {rt : Option FieldType} {As stk : List Value} {a : Nat} {ci : Nat} {fs : List Value} {C : String} {T9 : u_T} {N9 : Nat} {P : Option Nat → JIH → Prop} (X : JX M K l0 cc own nL ret nm hh lv h0 QR QX) (hd : decode cc pc = .ok (.invokevirtual idx, 3)) (lk : jLkV own idx y C As.length) (ce : jCe y b9 maxL rt) (hM : Ct K l0 y (ws_ y b9 maxL rt) lv' (.ref a :: As) h (jRa P) jNo) (hlv : lv' + 1 ≤ lv) (hc : jcl[ci]? = some (C, T9, N9)) (hrv : hget h a = some (jO ci fs)) (hst : stk = As.reverse ++ .ref a :: st)
    (kr : ∀ (r : Option Nat) (h' : JIH), P r h' → jGr h h' → J M h' (pc + 3) ls (va_rf r :: st)) (hrst : (st.map fun v => v.category).sum ≤ 8 := by first | exact Nat.le_of_ble_eq_true rfl | (simp [jcat_v]; done)) (hnl : ls.length = nL := by rfl) : J M h pc ls stk :=
  J.callV_ X hd lk ce hM hlv hc hrv hst hrst hnl (fun v h' z g => by obtain ⟨r, rfl, q⟩ := z; exact kr r h' q g) (fun _ _ _ z => z.elim)
theorem J.callVH_ {idx : Nat} {y : MethodName} {b9 : ByteArray} {maxL lv' : Nat} {rt : Option FieldType} {As stk : List Value} {QR' : JQR} {QX' : JQX} {h9 : List (Nat × Nat × Nat × Nat)} {a : Nat} {ci : Nat} {fs : List Value} {C : String} {T9 : u_T} {N9 : Nat} (X : JX M K l0 cc own nL ret nm hh lv h0 QR QX) (hd : decode cc pc = .ok (.invokevirtual idx, 3)) (lk : jLkV own idx y C As.length) (ce : jCeW y b9 maxL rt h9) (hM : Ct K l0 y (wsW_ y b9 maxL rt h9) lv' (.ref a :: As) h QR' QX') (hlv : lv' + 1 ≤ lv) (hc : jcl[ci]? = some (C, T9, N9)) (hrv : hget h a = some (jO ci fs)) (hst : stk = As.reverse ++ .ref a :: st) (hrst : (st.map fun v => v.category).sum ≤ 8 := by first | exact Nat.le_of_ble_eq_true rfl | (simp [jcat_v]; done)) (hnl : ls.length = nL := by rfl)
    (kr : ∀ (v : Option Value) (h' : JIH), QR' v h' → jGr h h' → J M h' (pc + 3) ls (v.toList ++ st)) (kx : ∀ (x : Nat) (E : String) (h' : JIH), QX' x E h' → jGr h h' → JT M h' pc ls x E) : J M h pc ls stk := by
  obtain ⟨K1, h1, R1, X1, p, l, e, R, s, m, args, below, meth, c⟩ := M
  obtain ⟨⟨rfl, rfl, rfl, rfl, rfl⟩, hx, hb, hml, hown, hr, hlk, hts, F, hW, hR, hs0, hb0, hnm, htab⟩ := X
  intro H locs la hH hlo hla hg
  subst hR
  subst hst
  intro T hT XS
  obtain ⟨ce1, ce2, ce3⟩ := ce
  have hrm := jroom_k (lv := lv) hg hH.2.2.2.2
  have hK9 := ct_back (R := jroom lv h1) (p := p) (e := e) (below := below) (s := s) (sargs := args) (len := 3) hM F hW (jCW.ofW F ce1 ce2) hlv (by show _ ≤ 64 * lv; omega)
  obtain ⟨cellB, g1, g2, g3⟩ := jcell (jK F hW) hH hc hrv
  rw [← hT] at g1
  obtain ⟨k1, k2, k3, k4, k5⟩ := lk
  exact jcall hlo hla hg kr kx (vx_callVX XS hx hown (hts _ k1) (hts _ k2) (hts _ k3) (hts _ ce1) k4 hK9 g1 g2 g3 rfl (show la.size = c.maxLocals by rw [hml, ← hnl]; exact hla.1) (argsL := As) (rest := st) (fun sig q => k5 sig q) rfl (lv_room hrst) (by rw [hb]; exact hd) (fun vm₁ hW₁ => ⟨rfl, ⟨State.WarmedH.trans hW hW₁, by rw [← hT] at hH; exact hH⟩, hrm.1, hrm.2⟩))
theorem J.callVHv {idx : Nat} {y : MethodName} {b9 : ByteArray} {maxL lv' : Nat} {rt : Option FieldType} {As stk : List Value} {h9 : List (Nat × Nat × Nat × Nat)} {a : Nat} {ci : Nat} {fs : List Value} {C : String} {T9 : u_T} {N9 : Nat} {P : JIH → Prop} (X : JX M K l0 cc own nL ret nm hh lv h0 QR QX) (hd : decode cc pc = .ok (.invokevirtual idx, 3)) (lk : jLkV own idx y C As.length) (ce : jCeW y b9 maxL rt h9) (hM : Ct K l0 y (wsW_ y b9 maxL rt h9) lv' (.ref a :: As) h (jRv P) jNo) (hlv : lv' + 1 ≤ lv) (hc : jcl[ci]? = some (C, T9, N9)) (hrv : hget h a = some (jO ci fs)) (hst : stk = As.reverse ++ .ref a :: st)
    (kr : ∀ (h' : JIH), P h' → jGr h h' → J M h' (pc + 3) ls (st)) (hrst : (st.map fun v => v.category).sum ≤ 8 := by first | exact Nat.le_of_ble_eq_true rfl | (simp [jcat_v]; done)) (hnl : ls.length = nL := by rfl) : J M h pc ls stk :=
  J.callVH_ X hd lk ce hM hlv hc hrv hst hrst hnl (fun v h' z g => by obtain ⟨rfl, q⟩ := z; exact kr h' q g) (fun _ _ _ z => z.elim)
theorem J.callVHi {idx : Nat} {y : MethodName} {b9 : ByteArray} {maxL lv' : Nat} {rt : Option FieldType} {As stk : List Value} {h9 : List (Nat × Nat × Nat × Nat)} {a : Nat} {ci : Nat} {fs : List Value} {C : String} {T9 : u_T} {N9 : Nat} {P : Int32 → JIH → Prop} (X : JX M K l0 cc own nL ret nm hh lv h0 QR QX) (hd : decode cc pc = .ok (.invokevirtual idx, 3)) (lk : jLkV own idx y C As.length) (ce : jCeW y b9 maxL rt h9) (hM : Ct K l0 y (wsW_ y b9 maxL rt h9) lv' (.ref a :: As) h (jRi P) jNo) (hlv : lv' + 1 ≤ lv) (hc : jcl[ci]? = some (C, T9, N9)) (hrv : hget h a = some (jO ci fs)) (hst : stk = As.reverse ++ .ref a :: st)
    (kr : ∀ (r : Int32) (h' : JIH), P r h' → jGr h h' → J M h' (pc + 3) ls (.int r :: st)) (hrst : (st.map fun v => v.category).sum ≤ 8 := by first | exact Nat.le_of_ble_eq_true rfl | (simp [jcat_v]; done)) (hnl : ls.length = nL := by rfl) : J M h pc ls stk :=
  J.callVH_ X hd lk ce hM hlv hc hrv hst hrst hnl (fun v h' z g => by obtain ⟨r, rfl, q⟩ := z; exact kr r h' q g) (fun _ _ _ z => z.elim)
theorem J.callVHl {idx : Nat} {y : MethodName} {b9 : ByteArray} {maxL lv' : Nat} {rt : Option FieldType} {As stk : List Value} {h9 : List (Nat × Nat × Nat × Nat)} {a : Nat} {ci : Nat} {fs : List Value} {C : String} {T9 : u_T} {N9 : Nat} {P : Int64 → JIH → Prop} (X : JX M K l0 cc own nL ret nm hh lv h0 QR QX) (hd : decode cc pc = .ok (.invokevirtual idx, 3)) (lk : jLkV own idx y C As.length) (ce : jCeW y b9 maxL rt h9) (hM : Ct K l0 y (wsW_ y b9 maxL rt h9) lv' (.ref a :: As) h (jRl P) jNo) (hlv : lv' + 1 ≤ lv) (hc : jcl[ci]? = some (C, T9, N9)) (hrv : hget h a = some (jO ci fs)) (hst : stk = As.reverse ++ .ref a :: st)
    (kr : ∀ (r : Int64) (h' : JIH), P r h' → jGr h h' → J M h' (pc + 3) ls (.long r :: st)) (hrst : (st.map fun v => v.category).sum ≤ 8 := by first | exact Nat.le_of_ble_eq_true rfl | (simp [jcat_v]; done)) (hnl : ls.length = nL := by rfl) : J M h pc ls stk :=
  J.callVH_ X hd lk ce hM hlv hc hrv hst hrst hnl (fun v h' z g => by obtain ⟨r, rfl, q⟩ := z; exact kr r h' q g) (fun _ _ _ z => z.elim)
theorem J.callVHa {idx : Nat} {y : MethodName} {b9 : ByteArray} {maxL lv' : Nat} {rt : Option FieldType} {As stk : List Value} {h9 : List (Nat × Nat × Nat × Nat)} {a : Nat} {ci : Nat} {fs : List Value} {C : String} {T9 : u_T} {N9 : Nat} {P : Option Nat → JIH → Prop} (X : JX M K l0 cc own nL ret nm hh lv h0 QR QX) (hd : decode cc pc = .ok (.invokevirtual idx, 3)) (lk : jLkV own idx y C As.length) (ce : jCeW y b9 maxL rt h9) (hM : Ct K l0 y (wsW_ y b9 maxL rt h9) lv' (.ref a :: As) h (jRa P) jNo) (hlv : lv' + 1 ≤ lv) (hc : jcl[ci]? = some (C, T9, N9)) (hrv : hget h a = some (jO ci fs)) (hst : stk = As.reverse ++ .ref a :: st)
    (kr : ∀ (r : Option Nat) (h' : JIH), P r h' → jGr h h' → J M h' (pc + 3) ls (va_rf r :: st)) (hrst : (st.map fun v => v.category).sum ≤ 8 := by first | exact Nat.le_of_ble_eq_true rfl | (simp [jcat_v]; done)) (hnl : ls.length = nL := by rfl) : J M h pc ls stk :=
  J.callVH_ X hd lk ce hM hlv hc hrv hst hrst hnl (fun v h' z g => by obtain ⟨r, rfl, q⟩ := z; exact kr r h' q g) (fun _ _ _ z => z.elim)
theorem J.callS_ {idx : Nat} {y : MethodName} {b9 : ByteArray} {maxL lv' : Nat} {rt : Option FieldType} {As stk : List Value} {QR' : JQR} {QX' : JQX} (X : JX M K l0 cc own nL ret nm hh lv h0 QR QX) (hd : decode cc pc = .ok (.invokestatic idx, 3)) (lk : jLkS own idx y As.length) (ce : jCe y b9 maxL rt) (hM : Ct K l0 y (ws_ y b9 maxL rt) lv' As h QR' QX') (hlv : lv' + 1 ≤ lv)  (hst : stk = As.reverse ++ st) (hrst : (st.map fun v => v.category).sum ≤ 8 := by first | exact Nat.le_of_ble_eq_true rfl | (simp [jcat_v]; done)) (hnl : ls.length = nL := by rfl)
    (kr : ∀ (v : Option Value) (h' : JIH), QR' v h' → jGr h h' → J M h' (pc + 3) ls (v.toList ++ st)) (kx : ∀ (x : Nat) (E : String) (h' : JIH), QX' x E h' → jGr h h' → JT M h' pc ls x E) : J M h pc ls stk := by
  obtain ⟨K1, h1, R1, X1, p, l, e, R, s, m, args, below, meth, c⟩ := M
  obtain ⟨⟨rfl, rfl, rfl, rfl, rfl⟩, hx, hb, hml, hown, hr, hlk, hts, F, hW, hR, hs0, hb0, hnm, htab⟩ := X
  intro H locs la hH hlo hla hg
  subst hR
  subst hst
  intro T hT XS
  obtain ⟨ce1, ce2, ce3⟩ := ce
  have hrm := jroom_k (lv := lv) hg hH.2.2.2.2
  have hK9 := ct_back (R := jroom lv h1) (p := p) (e := e) (below := below) (s := s) (sargs := args) (len := 3) hM F hW (jCW.of F ce1 ce2) hlv (by show _ ≤ 64 * lv; omega)
  obtain ⟨k1, k2, k3, k4⟩ := lk
  exact jcall hlo hla hg kr kx (vx_callS XS hx hown (hts _ k1) (hts _ k2) (hts _ ce2) (hts _ ce1) k3 hK9 rfl (show la.size = c.maxLocals by rw [hml, ← hnl]; exact hla.1) (argsL := As) (rest := st) (fun sig q => k4 sig q) rfl (lv_room hrst) (by rw [hb]; exact hd) (fun vm₁ hW₁ => ⟨rfl, ⟨State.WarmedH.trans hW hW₁, by rw [← hT] at hH; exact hH⟩, hrm.1, hrm.2⟩))
theorem J.callSv {idx : Nat} {y : MethodName} {b9 : ByteArray} {maxL lv' : Nat} {rt : Option FieldType} {As stk : List Value} {P : JIH → Prop} (X : JX M K l0 cc own nL ret nm hh lv h0 QR QX) (hd : decode cc pc = .ok (.invokestatic idx, 3)) (lk : jLkS own idx y As.length) (ce : jCe y b9 maxL rt) (hM : Ct K l0 y (ws_ y b9 maxL rt) lv' As h (jRv P) jNo) (hlv : lv' + 1 ≤ lv)  (hst : stk = As.reverse ++ st)
    (kr : ∀ (h' : JIH), P h' → jGr h h' → J M h' (pc + 3) ls (st)) (hrst : (st.map fun v => v.category).sum ≤ 8 := by first | exact Nat.le_of_ble_eq_true rfl | (simp [jcat_v]; done)) (hnl : ls.length = nL := by rfl) : J M h pc ls stk :=
  J.callS_ X hd lk ce hM hlv  hst hrst hnl (fun v h' z g => by obtain ⟨rfl, q⟩ := z; exact kr h' q g) (fun _ _ _ z => z.elim)
theorem J.callSi {idx : Nat} {y : MethodName} {b9 : ByteArray} {maxL lv' : Nat} {rt : Option FieldType} {As stk : List Value} {P : Int32 → JIH → Prop} (X : JX M K l0 cc own nL ret nm hh lv h0 QR QX) (hd : decode cc pc = .ok (.invokestatic idx, 3)) (lk : jLkS own idx y As.length) (ce : jCe y b9 maxL rt) (hM : Ct K l0 y (ws_ y b9 maxL rt) lv' As h (jRi P) jNo) (hlv : lv' + 1 ≤ lv)  (hst : stk = As.reverse ++ st)
    (kr : ∀ (r : Int32) (h' : JIH), P r h' → jGr h h' → J M h' (pc + 3) ls (.int r :: st)) (hrst : (st.map fun v => v.category).sum ≤ 8 := by first | exact Nat.le_of_ble_eq_true rfl | (simp [jcat_v]; done)) (hnl : ls.length = nL := by rfl) : J M h pc ls stk :=
  J.callS_ X hd lk ce hM hlv  hst hrst hnl (fun v h' z g => by obtain ⟨r, rfl, q⟩ := z; exact kr r h' q g) (fun _ _ _ z => z.elim)
theorem J.callSl {idx : Nat} {y : MethodName} {b9 : ByteArray} {maxL lv' : Nat} {rt : Option FieldType} {As stk : List Value} {P : Int64 → JIH → Prop} (X : JX M K l0 cc own nL ret nm hh lv h0 QR QX) (hd : decode cc pc = .ok (.invokestatic idx, 3)) (lk : jLkS own idx y As.length) (ce : jCe y b9 maxL rt) (hM : Ct K l0 y (ws_ y b9 maxL rt) lv' As h (jRl P) jNo) (hlv : lv' + 1 ≤ lv)  (hst : stk = As.reverse ++ st)
    (kr : ∀ (r : Int64) (h' : JIH), P r h' → jGr h h' → J M h' (pc + 3) ls (.long r :: st)) (hrst : (st.map fun v => v.category).sum ≤ 8 := by first | exact Nat.le_of_ble_eq_true rfl | (simp [jcat_v]; done)) (hnl : ls.length = nL := by rfl) : J M h pc ls stk :=
  J.callS_ X hd lk ce hM hlv  hst hrst hnl (fun v h' z g => by obtain ⟨r, rfl, q⟩ := z; exact kr r h' q g) (fun _ _ _ z => z.elim)
theorem J.callSa {idx : Nat} {y : MethodName} {b9 : ByteArray} {maxL lv' : Nat} {rt : Option FieldType} {As stk : List Value} {P : Option Nat → JIH → Prop} (X : JX M K l0 cc own nL ret nm hh lv h0 QR QX) (hd : decode cc pc = .ok (.invokestatic idx, 3)) (lk : jLkS own idx y As.length) (ce : jCe y b9 maxL rt) (hM : Ct K l0 y (ws_ y b9 maxL rt) lv' As h (jRa P) jNo) (hlv : lv' + 1 ≤ lv)  (hst : stk = As.reverse ++ st)
    (kr : ∀ (r : Option Nat) (h' : JIH), P r h' → jGr h h' → J M h' (pc + 3) ls (va_rf r :: st)) (hrst : (st.map fun v => v.category).sum ≤ 8 := by first | exact Nat.le_of_ble_eq_true rfl | (simp [jcat_v]; done)) (hnl : ls.length = nL := by rfl) : J M h pc ls stk :=
  J.callS_ X hd lk ce hM hlv  hst hrst hnl (fun v h' z g => by obtain ⟨r, rfl, q⟩ := z; exact kr r h' q g) (fun _ _ _ z => z.elim)
theorem J.callSH_ {idx : Nat} {y : MethodName} {b9 : ByteArray} {maxL lv' : Nat} {rt : Option FieldType} {As stk : List Value} {QR' : JQR} {QX' : JQX} {h9 : List (Nat × Nat × Nat × Nat)} (X : JX M K l0 cc own nL ret nm hh lv h0 QR QX) (hd : decode cc pc = .ok (.invokestatic idx, 3)) (lk : jLkS own idx y As.length) (ce : jCeW y b9 maxL rt h9) (hM : Ct K l0 y (wsW_ y b9 maxL rt h9) lv' As h QR' QX') (hlv : lv' + 1 ≤ lv)  (hst : stk = As.reverse ++ st) (hrst : (st.map fun v => v.category).sum ≤ 8 := by first | exact Nat.le_of_ble_eq_true rfl | (simp [jcat_v]; done)) (hnl : ls.length = nL := by rfl)
    (kr : ∀ (v : Option Value) (h' : JIH), QR' v h' → jGr h h' → J M h' (pc + 3) ls (v.toList ++ st)) (kx : ∀ (x : Nat) (E : String) (h' : JIH), QX' x E h' → jGr h h' → JT M h' pc ls x E) : J M h pc ls stk := by
  obtain ⟨K1, h1, R1, X1, p, l, e, R, s, m, args, below, meth, c⟩ := M
  obtain ⟨⟨rfl, rfl, rfl, rfl, rfl⟩, hx, hb, hml, hown, hr, hlk, hts, F, hW, hR, hs0, hb0, hnm, htab⟩ := X
  intro H locs la hH hlo hla hg
  subst hR
  subst hst
  intro T hT XS
  obtain ⟨ce1, ce2, ce3⟩ := ce
  have hrm := jroom_k (lv := lv) hg hH.2.2.2.2
  have hK9 := ct_back (R := jroom lv h1) (p := p) (e := e) (below := below) (s := s) (sargs := args) (len := 3) hM F hW (jCW.ofW F ce1 ce2) hlv (by show _ ≤ 64 * lv; omega)
  obtain ⟨k1, k2, k3, k4⟩ := lk
  exact jcall hlo hla hg kr kx (vx_callSX XS hx hown (hts _ k1) (hts _ k2) (hts _ ce2) (hts _ ce1) k3 hK9 rfl (show la.size = c.maxLocals by rw [hml, ← hnl]; exact hla.1) (argsL := As) (rest := st) (fun sig q => k4 sig q) rfl (lv_room hrst) (by rw [hb]; exact hd) (fun vm₁ hW₁ => ⟨rfl, ⟨State.WarmedH.trans hW hW₁, by rw [← hT] at hH; exact hH⟩, hrm.1, hrm.2⟩))
theorem J.callSHv {idx : Nat} {y : MethodName} {b9 : ByteArray} {maxL lv' : Nat} {rt : Option FieldType} {As stk : List Value} {h9 : List (Nat × Nat × Nat × Nat)} {P : JIH → Prop} (X : JX M K l0 cc own nL ret nm hh lv h0 QR QX) (hd : decode cc pc = .ok (.invokestatic idx, 3)) (lk : jLkS own idx y As.length) (ce : jCeW y b9 maxL rt h9) (hM : Ct K l0 y (wsW_ y b9 maxL rt h9) lv' As h (jRv P) jNo) (hlv : lv' + 1 ≤ lv)  (hst : stk = As.reverse ++ st)
    (kr : ∀ (h' : JIH), P h' → jGr h h' → J M h' (pc + 3) ls (st)) (hrst : (st.map fun v => v.category).sum ≤ 8 := by first | exact Nat.le_of_ble_eq_true rfl | (simp [jcat_v]; done)) (hnl : ls.length = nL := by rfl) : J M h pc ls stk :=
  J.callSH_ X hd lk ce hM hlv  hst hrst hnl (fun v h' z g => by obtain ⟨rfl, q⟩ := z; exact kr h' q g) (fun _ _ _ z => z.elim)
theorem J.callSHi {idx : Nat} {y : MethodName} {b9 : ByteArray} {maxL lv' : Nat} {rt : Option FieldType} {As stk : List Value} {h9 : List (Nat × Nat × Nat × Nat)} {P : Int32 → JIH → Prop} (X : JX M K l0 cc own nL ret nm hh lv h0 QR QX) (hd : decode cc pc = .ok (.invokestatic idx, 3)) (lk : jLkS own idx y As.length) (ce : jCeW y b9 maxL rt h9) (hM : Ct K l0 y (wsW_ y b9 maxL rt h9) lv' As h (jRi P) jNo) (hlv : lv' + 1 ≤ lv)  (hst : stk = As.reverse ++ st)
    (kr : ∀ (r : Int32) (h' : JIH), P r h' → jGr h h' → J M h' (pc + 3) ls (.int r :: st)) (hrst : (st.map fun v => v.category).sum ≤ 8 := by first | exact Nat.le_of_ble_eq_true rfl | (simp [jcat_v]; done)) (hnl : ls.length = nL := by rfl) : J M h pc ls stk :=
  J.callSH_ X hd lk ce hM hlv  hst hrst hnl (fun v h' z g => by obtain ⟨r, rfl, q⟩ := z; exact kr r h' q g) (fun _ _ _ z => z.elim)
theorem J.callSHl {idx : Nat} {y : MethodName} {b9 : ByteArray} {maxL lv' : Nat} {rt : Option FieldType} {As stk : List Value} {h9 : List (Nat × Nat × Nat × Nat)} {P : Int64 → JIH → Prop} (X : JX M K l0 cc own nL ret nm hh lv h0 QR QX) (hd : decode cc pc = .ok (.invokestatic idx, 3)) (lk : jLkS own idx y As.length) (ce : jCeW y b9 maxL rt h9) (hM : Ct K l0 y (wsW_ y b9 maxL rt h9) lv' As h (jRl P) jNo) (hlv : lv' + 1 ≤ lv)  (hst : stk = As.reverse ++ st)
    (kr : ∀ (r : Int64) (h' : JIH), P r h' → jGr h h' → J M h' (pc + 3) ls (.long r :: st)) (hrst : (st.map fun v => v.category).sum ≤ 8 := by first | exact Nat.le_of_ble_eq_true rfl | (simp [jcat_v]; done)) (hnl : ls.length = nL := by rfl) : J M h pc ls stk :=
  J.callSH_ X hd lk ce hM hlv  hst hrst hnl (fun v h' z g => by obtain ⟨r, rfl, q⟩ := z; exact kr r h' q g) (fun _ _ _ z => z.elim)
theorem J.callSHa {idx : Nat} {y : MethodName} {b9 : ByteArray} {maxL lv' : Nat} {rt : Option FieldType} {As stk : List Value} {h9 : List (Nat × Nat × Nat × Nat)} {P : Option Nat → JIH → Prop} (X : JX M K l0 cc own nL ret nm hh lv h0 QR QX) (hd : decode cc pc = .ok (.invokestatic idx, 3)) (lk : jLkS own idx y As.length) (ce : jCeW y b9 maxL rt h9) (hM : Ct K l0 y (wsW_ y b9 maxL rt h9) lv' As h (jRa P) jNo) (hlv : lv' + 1 ≤ lv)  (hst : stk = As.reverse ++ st)
    (kr : ∀ (r : Option Nat) (h' : JIH), P r h' → jGr h h' → J M h' (pc + 3) ls (va_rf r :: st)) (hrst : (st.map fun v => v.category).sum ≤ 8 := by first | exact Nat.le_of_ble_eq_true rfl | (simp [jcat_v]; done)) (hnl : ls.length = nL := by rfl) : J M h pc ls stk :=
  J.callSH_ X hd lk ce hM hlv  hst hrst hnl (fun v h' z g => by obtain ⟨r, rfl, q⟩ := z; exact kr r h' q g) (fun _ _ _ z => z.elim)
theorem J.callI_ {idx : Nat} {y : MethodName} {b9 : ByteArray} {maxL lv' : Nat} {As stk : List Value} {QR' : JQR} {QX' : JQX} {a : Nat} (X : JX M K l0 cc own nL ret nm hh lv h0 QR QX) (hd : decode cc pc = .ok (.invokespecial idx, 3)) (lk : jLkI own idx y As.length) (ce : jCe y b9 maxL none) (hM : Ct K l0 y (ws_ y b9 maxL none) lv' (.ref a :: As) h QR' QX') (hlv : lv' + 1 ≤ lv)  (hst : stk = As.reverse ++ .ref a :: st) (hrst : (st.map fun v => v.category).sum ≤ 8 := by first | exact Nat.le_of_ble_eq_true rfl | (simp [jcat_v]; done)) (hnl : ls.length = nL := by rfl)
    (kr : ∀ (v : Option Value) (h' : JIH), QR' v h' → jGr h h' → J M h' (pc + 3) ls (v.toList ++ st)) (kx : ∀ (x : Nat) (E : String) (h' : JIH), QX' x E h' → jGr h h' → JT M h' pc ls x E) : J M h pc ls stk := by
  obtain ⟨K1, h1, R1, X1, p, l, e, R, s, m, args, below, meth, c⟩ := M
  obtain ⟨⟨rfl, rfl, rfl, rfl, rfl⟩, hx, hb, hml, hown, hr, hlk, hts, F, hW, hR, hs0, hb0, hnm, htab⟩ := X
  intro H locs la hH hlo hla hg
  subst hR
  subst hst
  intro T hT XS
  obtain ⟨ce1, ce2, ce3⟩ := ce
  have hrm := jroom_k (lv := lv) hg hH.2.2.2.2
  have hK9 := ct_back (R := jroom lv h1) (p := p) (e := e) (below := below) (s := s) (sargs := args) (len := 3) hM F hW (jCW.of F ce1 ce2) hlv (by show _ ≤ 64 * lv; omega)
  obtain ⟨k0, k1, k2, k3, k4⟩ := lk
  exact jcall hlo hla hg kr kx (vx_callI XS hx hown k0 (hts _ k1) (hts _ k2) (hts _ ce1) k3 hK9 rfl (show la.size = c.maxLocals by rw [hml, ← hnl]; exact hla.1) (a := a) (argsL := As) (rest := st) (fun sig q => k4 sig q) rfl (lv_room hrst) (by rw [hb]; exact hd) (fun vm₁ hW₁ => ⟨rfl, ⟨State.WarmedH.trans hW hW₁, by rw [← hT] at hH; exact hH⟩, hrm.1, hrm.2⟩))
theorem J.callI {idx : Nat} {y : MethodName} {b9 : ByteArray} {maxL lv' : Nat} {As stk : List Value} {a : Nat} {P : JIH → Prop} (X : JX M K l0 cc own nL ret nm hh lv h0 QR QX) (hd : decode cc pc = .ok (.invokespecial idx, 3)) (lk : jLkI own idx y As.length) (ce : jCe y b9 maxL none) (hM : Ct K l0 y (ws_ y b9 maxL none) lv' (.ref a :: As) h (jRv P) jNo) (hlv : lv' + 1 ≤ lv)  (hst : stk = As.reverse ++ .ref a :: st)
    (kr : ∀ (h' : JIH), P h' → jGr h h' → J M h' (pc + 3) ls (st)) (hrst : (st.map fun v => v.category).sum ≤ 8 := by first | exact Nat.le_of_ble_eq_true rfl | (simp [jcat_v]; done)) (hnl : ls.length = nL := by rfl) : J M h pc ls stk :=
  J.callI_ X hd lk ce hM hlv  hst hrst hnl (fun v h' z g => by obtain ⟨rfl, q⟩ := z; exact kr h' q g) (fun _ _ _ z => z.elim)
theorem J.callVN_ {idx : Nat} {y : MethodName} {b9 : ByteArray} {maxL lv' : Nat} {rt : Option FieldType} {As stk : List Value} {QR' : JQR} {QX' : JQX} {a : Nat} {ci : Nat} {fs : List Value} {C : String} {T9 : u_T} {N9 : Nat} (X : JX M K l0 cc own nL ret nm hh lv h0 QR QX) (hd : decode cc pc = .ok (.invokevirtual idx, 3)) (lk : jLkVN own idx y C As.length) (ce : jCe y b9 maxL rt) (hM : Ct K l0 y (ws_ y b9 maxL rt) lv' (.ref a :: As) h QR' QX') (hlv : lv' + 1 ≤ lv) (hc : jcl[ci]? = some (C, T9, N9)) (hrv : hget h a = some (jO ci fs)) (hst : stk = As.reverse ++ .ref a :: st) (hrst : (st.map fun v => v.category).sum ≤ 8 := by first | exact Nat.le_of_ble_eq_true rfl | (simp [jcat_v]; done)) (hnl : ls.length = nL := by rfl)
    (kr : ∀ (v : Option Value) (h' : JIH), QR' v h' → jGr h h' → J M h' (pc + 3) ls (v.toList ++ st)) (kx : ∀ (x : Nat) (E : String) (h' : JIH), QX' x E h' → jGr h h' → JT M h' pc ls x E) : J M h pc ls stk := by
  obtain ⟨K1, h1, R1, X1, p, l, e, R, s, m, args, below, meth, c⟩ := M
  obtain ⟨⟨rfl, rfl, rfl, rfl, rfl⟩, hx, hb, hml, hown, hr, hlk, hts, F, hW, hR, hs0, hb0, hnm, htab⟩ := X
  intro H locs la hH hlo hla hg
  subst hR
  subst hst
  intro T hT XS
  obtain ⟨ce1, ce2, ce3⟩ := ce
  have hrm := jroom_k (lv := lv) hg hH.2.2.2.2
  have hK9 := ct_back (R := jroom lv h1) (p := p) (e := e) (below := below) (s := s) (sargs := args) (len := 3) hM F hW (jCW.of F ce1 ce2) hlv (by show _ ≤ 64 * lv; omega)
  obtain ⟨cellB, g1, g2, g3⟩ := jcell (jK F hW) hH hc hrv
  rw [← hT] at g1
  obtain ⟨⟨host, k1⟩, k2, k3, k4, k5⟩ := lk
  exact jcall hlo hla hg kr kx (vx_callVN XS hx hown (jnestM F hW k1 _) (hts _ k2) (hts _ k3) (hts _ ce1) k4 hK9 g1 g2 g3 rfl (show la.size = c.maxLocals by rw [hml, ← hnl]; exact hla.1) (argsL := As) (rest := st) (fun sig q => k5 sig q) rfl (lv_room hrst) (by rw [hb]; exact hd) (fun vm₁ hW₁ => ⟨rfl, ⟨State.WarmedH.trans hW hW₁, by rw [← hT] at hH; exact hH⟩, hrm.1, hrm.2⟩))
theorem J.callVNv {idx : Nat} {y : MethodName} {b9 : ByteArray} {maxL lv' : Nat} {rt : Option FieldType} {As stk : List Value} {a : Nat} {ci : Nat} {fs : List Value} {C : String} {T9 : u_T} {N9 : Nat} {P : JIH → Prop} (X : JX M K l0 cc own nL ret nm hh lv h0 QR QX) (hd : decode cc pc = .ok (.invokevirtual idx, 3)) (lk : jLkVN own idx y C As.length) (ce : jCe y b9 maxL rt) (hM : Ct K l0 y (ws_ y b9 maxL rt) lv' (.ref a :: As) h (jRv P) jNo) (hlv : lv' + 1 ≤ lv) (hc : jcl[ci]? = some (C, T9, N9)) (hrv : hget h a = some (jO ci fs)) (hst : stk = As.reverse ++ .ref a :: st)
    (kr : ∀ (h' : JIH), P h' → jGr h h' → J M h' (pc + 3) ls (st)) (hrst : (st.map fun v => v.category).sum ≤ 8 := by first | exact Nat.le_of_ble_eq_true rfl | (simp [jcat_v]; done)) (hnl : ls.length = nL := by rfl) : J M h pc ls stk :=
  J.callVN_ X hd lk ce hM hlv hc hrv hst hrst hnl (fun v h' z g => by obtain ⟨rfl, q⟩ := z; exact kr h' q g) (fun _ _ _ z => z.elim)
theorem J.callVNi {idx : Nat} {y : MethodName} {b9 : ByteArray} {maxL lv' : Nat} {rt : Option FieldType} {As stk : List Value} {a : Nat} {ci : Nat} {fs : List Value} {C : String} {T9 : u_T} {N9 : Nat} {P : Int32 → JIH → Prop} (X : JX M K l0 cc own nL ret nm hh lv h0 QR QX) (hd : decode cc pc = .ok (.invokevirtual idx, 3)) (lk : jLkVN own idx y C As.length) (ce : jCe y b9 maxL rt) (hM : Ct K l0 y (ws_ y b9 maxL rt) lv' (.ref a :: As) h (jRi P) jNo) (hlv : lv' + 1 ≤ lv) (hc : jcl[ci]? = some (C, T9, N9)) (hrv : hget h a = some (jO ci fs)) (hst : stk = As.reverse ++ .ref a :: st)
    (kr : ∀ (r : Int32) (h' : JIH), P r h' → jGr h h' → J M h' (pc + 3) ls (.int r :: st)) (hrst : (st.map fun v => v.category).sum ≤ 8 := by first | exact Nat.le_of_ble_eq_true rfl | (simp [jcat_v]; done)) (hnl : ls.length = nL := by rfl) : J M h pc ls stk :=
  J.callVN_ X hd lk ce hM hlv hc hrv hst hrst hnl (fun v h' z g => by obtain ⟨r, rfl, q⟩ := z; exact kr r h' q g) (fun _ _ _ z => z.elim)
theorem J.callVNl {idx : Nat} {y : MethodName} {b9 : ByteArray} {maxL lv' : Nat} {rt : Option FieldType} {As stk : List Value} {a : Nat} {ci : Nat} {fs : List Value} {C : String} {T9 : u_T} {N9 : Nat} {P : Int64 → JIH → Prop} (X : JX M K l0 cc own nL ret nm hh lv h0 QR QX) (hd : decode cc pc = .ok (.invokevirtual idx, 3)) (lk : jLkVN own idx y C As.length) (ce : jCe y b9 maxL rt) (hM : Ct K l0 y (ws_ y b9 maxL rt) lv' (.ref a :: As) h (jRl P) jNo) (hlv : lv' + 1 ≤ lv) (hc : jcl[ci]? = some (C, T9, N9)) (hrv : hget h a = some (jO ci fs)) (hst : stk = As.reverse ++ .ref a :: st)
    (kr : ∀ (r : Int64) (h' : JIH), P r h' → jGr h h' → J M h' (pc + 3) ls (.long r :: st)) (hrst : (st.map fun v => v.category).sum ≤ 8 := by first | exact Nat.le_of_ble_eq_true rfl | (simp [jcat_v]; done)) (hnl : ls.length = nL := by rfl) : J M h pc ls stk :=
  J.callVN_ X hd lk ce hM hlv hc hrv hst hrst hnl (fun v h' z g => by obtain ⟨r, rfl, q⟩ := z; exact kr r h' q g) (fun _ _ _ z => z.elim)
theorem J.callVNa {idx : Nat} {y : MethodName} {b9 : ByteArray} {maxL lv' : Nat} {rt : Option FieldType} {As stk : List Value} {a : Nat} {ci : Nat} {fs : List Value} {C : String} {T9 : u_T} {N9 : Nat} {P : Option Nat → JIH → Prop} (X : JX M K l0 cc own nL ret nm hh lv h0 QR QX) (hd : decode cc pc = .ok (.invokevirtual idx, 3)) (lk : jLkVN own idx y C As.length) (ce : jCe y b9 maxL rt) (hM : Ct K l0 y (ws_ y b9 maxL rt) lv' (.ref a :: As) h (jRa P) jNo) (hlv : lv' + 1 ≤ lv) (hc : jcl[ci]? = some (C, T9, N9)) (hrv : hget h a = some (jO ci fs)) (hst : stk = As.reverse ++ .ref a :: st)
    (kr : ∀ (r : Option Nat) (h' : JIH), P r h' → jGr h h' → J M h' (pc + 3) ls (va_rf r :: st)) (hrst : (st.map fun v => v.category).sum ≤ 8 := by first | exact Nat.le_of_ble_eq_true rfl | (simp [jcat_v]; done)) (hnl : ls.length = nL := by rfl) : J M h pc ls stk :=
  J.callVN_ X hd lk ce hM hlv hc hrv hst hrst hnl (fun v h' z g => by obtain ⟨r, rfl, q⟩ := z; exact kr r h' q g) (fun _ _ _ z => z.elim)
theorem J.callSN_ {idx : Nat} {y : MethodName} {b9 : ByteArray} {maxL lv' : Nat} {rt : Option FieldType} {As stk : List Value} {QR' : JQR} {QX' : JQX} (X : JX M K l0 cc own nL ret nm hh lv h0 QR QX) (hd : decode cc pc = .ok (.invokestatic idx, 3)) (lk : jLkSN own idx y As.length) (ce : jCe y b9 maxL rt) (hM : Ct K l0 y (ws_ y b9 maxL rt) lv' As h QR' QX') (hlv : lv' + 1 ≤ lv)  (hst : stk = As.reverse ++ st) (hrst : (st.map fun v => v.category).sum ≤ 8 := by first | exact Nat.le_of_ble_eq_true rfl | (simp [jcat_v]; done)) (hnl : ls.length = nL := by rfl)
    (kr : ∀ (v : Option Value) (h' : JIH), QR' v h' → jGr h h' → J M h' (pc + 3) ls (v.toList ++ st)) (kx : ∀ (x : Nat) (E : String) (h' : JIH), QX' x E h' → jGr h h' → JT M h' pc ls x E) : J M h pc ls stk := by
  obtain ⟨K1, h1, R1, X1, p, l, e, R, s, m, args, below, meth, c⟩ := M
  obtain ⟨⟨rfl, rfl, rfl, rfl, rfl⟩, hx, hb, hml, hown, hr, hlk, hts, F, hW, hR, hs0, hb0, hnm, htab⟩ := X
  intro H locs la hH hlo hla hg
  subst hR
  subst hst
  intro T hT XS
  obtain ⟨ce1, ce2, ce3⟩ := ce
  have hrm := jroom_k (lv := lv) hg hH.2.2.2.2
  have hK9 := ct_back (R := jroom lv h1) (p := p) (e := e) (below := below) (s := s) (sargs := args) (len := 3) hM F hW (jCW.of F ce1 ce2) hlv (by show _ ≤ 64 * lv; omega)
  obtain ⟨⟨host, k1⟩, k2, k3, k4⟩ := lk
  exact jcall hlo hla hg kr kx (vx_callSN XS hx hown (jnestM F hW k1 _) (hts _ k2) (hts _ ce2) (hts _ ce1) k3 hK9 rfl (show la.size = c.maxLocals by rw [hml, ← hnl]; exact hla.1) (argsL := As) (rest := st) (fun sig q => k4 sig q) rfl (lv_room hrst) (by rw [hb]; exact hd) (fun vm₁ hW₁ => ⟨rfl, ⟨State.WarmedH.trans hW hW₁, by rw [← hT] at hH; exact hH⟩, hrm.1, hrm.2⟩))
theorem J.callSNv {idx : Nat} {y : MethodName} {b9 : ByteArray} {maxL lv' : Nat} {rt : Option FieldType} {As stk : List Value} {P : JIH → Prop} (X : JX M K l0 cc own nL ret nm hh lv h0 QR QX) (hd : decode cc pc = .ok (.invokestatic idx, 3)) (lk : jLkSN own idx y As.length) (ce : jCe y b9 maxL rt) (hM : Ct K l0 y (ws_ y b9 maxL rt) lv' As h (jRv P) jNo) (hlv : lv' + 1 ≤ lv)  (hst : stk = As.reverse ++ st)
    (kr : ∀ (h' : JIH), P h' → jGr h h' → J M h' (pc + 3) ls (st)) (hrst : (st.map fun v => v.category).sum ≤ 8 := by first | exact Nat.le_of_ble_eq_true rfl | (simp [jcat_v]; done)) (hnl : ls.length = nL := by rfl) : J M h pc ls stk :=
  J.callSN_ X hd lk ce hM hlv  hst hrst hnl (fun v h' z g => by obtain ⟨rfl, q⟩ := z; exact kr h' q g) (fun _ _ _ z => z.elim)
theorem J.callSNi {idx : Nat} {y : MethodName} {b9 : ByteArray} {maxL lv' : Nat} {rt : Option FieldType} {As stk : List Value} {P : Int32 → JIH → Prop} (X : JX M K l0 cc own nL ret nm hh lv h0 QR QX) (hd : decode cc pc = .ok (.invokestatic idx, 3)) (lk : jLkSN own idx y As.length) (ce : jCe y b9 maxL rt) (hM : Ct K l0 y (ws_ y b9 maxL rt) lv' As h (jRi P) jNo) (hlv : lv' + 1 ≤ lv)  (hst : stk = As.reverse ++ st)
    (kr : ∀ (r : Int32) (h' : JIH), P r h' → jGr h h' → J M h' (pc + 3) ls (.int r :: st)) (hrst : (st.map fun v => v.category).sum ≤ 8 := by first | exact Nat.le_of_ble_eq_true rfl | (simp [jcat_v]; done)) (hnl : ls.length = nL := by rfl) : J M h pc ls stk :=
  J.callSN_ X hd lk ce hM hlv  hst hrst hnl (fun v h' z g => by obtain ⟨r, rfl, q⟩ := z; exact kr r h' q g) (fun _ _ _ z => z.elim)
theorem J.callSNl {idx : Nat} {y : MethodName} {b9 : ByteArray} {maxL lv' : Nat} {rt : Option FieldType} {As stk : List Value} {P : Int64 → JIH → Prop} (X : JX M K l0 cc own nL ret nm hh lv h0 QR QX) (hd : decode cc pc = .ok (.invokestatic idx, 3)) (lk : jLkSN own idx y As.length) (ce : jCe y b9 maxL rt) (hM : Ct K l0 y (ws_ y b9 maxL rt) lv' As h (jRl P) jNo) (hlv : lv' + 1 ≤ lv)  (hst : stk = As.reverse ++ st)
    (kr : ∀ (r : Int64) (h' : JIH), P r h' → jGr h h' → J M h' (pc + 3) ls (.long r :: st)) (hrst : (st.map fun v => v.category).sum ≤ 8 := by first | exact Nat.le_of_ble_eq_true rfl | (simp [jcat_v]; done)) (hnl : ls.length = nL := by rfl) : J M h pc ls stk :=
  J.callSN_ X hd lk ce hM hlv  hst hrst hnl (fun v h' z g => by obtain ⟨r, rfl, q⟩ := z; exact kr r h' q g) (fun _ _ _ z => z.elim)
theorem J.callSNa {idx : Nat} {y : MethodName} {b9 : ByteArray} {maxL lv' : Nat} {rt : Option FieldType} {As stk : List Value} {P : Option Nat → JIH → Prop} (X : JX M K l0 cc own nL ret nm hh lv h0 QR QX) (hd : decode cc pc = .ok (.invokestatic idx, 3)) (lk : jLkSN own idx y As.length) (ce : jCe y b9 maxL rt) (hM : Ct K l0 y (ws_ y b9 maxL rt) lv' As h (jRa P) jNo) (hlv : lv' + 1 ≤ lv)  (hst : stk = As.reverse ++ st)
    (kr : ∀ (r : Option Nat) (h' : JIH), P r h' → jGr h h' → J M h' (pc + 3) ls (va_rf r :: st)) (hrst : (st.map fun v => v.category).sum ≤ 8 := by first | exact Nat.le_of_ble_eq_true rfl | (simp [jcat_v]; done)) (hnl : ls.length = nL := by rfl) : J M h pc ls stk :=
  J.callSN_ X hd lk ce hM hlv  hst hrst hnl (fun v h' z g => by obtain ⟨r, rfl, q⟩ := z; exact kr r h' q g) (fun _ _ _ z => z.elim)
theorem J.callIN_ {idx : Nat} {y : MethodName} {b9 : ByteArray} {maxL lv' : Nat} {As stk : List Value} {QR' : JQR} {QX' : JQX} {a : Nat} (X : JX M K l0 cc own nL ret nm hh lv h0 QR QX) (hd : decode cc pc = .ok (.invokespecial idx, 3)) (lk : jLkIN own idx y As.length) (ce : jCe y b9 maxL none) (hM : Ct K l0 y (ws_ y b9 maxL none) lv' (.ref a :: As) h QR' QX') (hlv : lv' + 1 ≤ lv)  (hst : stk = As.reverse ++ .ref a :: st) (hrst : (st.map fun v => v.category).sum ≤ 8 := by first | exact Nat.le_of_ble_eq_true rfl | (simp [jcat_v]; done)) (hnl : ls.length = nL := by rfl)
    (kr : ∀ (v : Option Value) (h' : JIH), QR' v h' → jGr h h' → J M h' (pc + 3) ls (v.toList ++ st)) (kx : ∀ (x : Nat) (E : String) (h' : JIH), QX' x E h' → jGr h h' → JT M h' pc ls x E) : J M h pc ls stk := by
  obtain ⟨K1, h1, R1, X1, p, l, e, R, s, m, args, below, meth, c⟩ := M
  obtain ⟨⟨rfl, rfl, rfl, rfl, rfl⟩, hx, hb, hml, hown, hr, hlk, hts, F, hW, hR, hs0, hb0, hnm, htab⟩ := X
  intro H locs la hH hlo hla hg
  subst hR
  subst hst
  intro T hT XS
  obtain ⟨ce1, ce2, ce3⟩ := ce
  have hrm := jroom_k (lv := lv) hg hH.2.2.2.2
  have hK9 := ct_back (R := jroom lv h1) (p := p) (e := e) (below := below) (s := s) (sargs := args) (len := 3) hM F hW (jCW.of F ce1 ce2) hlv (by show _ ≤ 64 * lv; omega)
  obtain ⟨k0, ⟨host, k1⟩, k2, k3, k4⟩ := lk
  exact jcall hlo hla hg kr kx (vx_callIN XS hx hown k0 (jnestM F hW k1 _) (hts _ k2) (hts _ ce1) k3 hK9 rfl (show la.size = c.maxLocals by rw [hml, ← hnl]; exact hla.1) (a := a) (argsL := As) (rest := st) (fun sig q => k4 sig q) rfl (lv_room hrst) (by rw [hb]; exact hd) (fun vm₁ hW₁ => ⟨rfl, ⟨State.WarmedH.trans hW hW₁, by rw [← hT] at hH; exact hH⟩, hrm.1, hrm.2⟩))
theorem J.callIN {idx : Nat} {y : MethodName} {b9 : ByteArray} {maxL lv' : Nat} {As stk : List Value} {a : Nat} {P : JIH → Prop} (X : JX M K l0 cc own nL ret nm hh lv h0 QR QX) (hd : decode cc pc = .ok (.invokespecial idx, 3)) (lk : jLkIN own idx y As.length) (ce : jCe y b9 maxL none) (hM : Ct K l0 y (ws_ y b9 maxL none) lv' (.ref a :: As) h (jRv P) jNo) (hlv : lv' + 1 ≤ lv)  (hst : stk = As.reverse ++ .ref a :: st)
    (kr : ∀ (h' : JIH), P h' → jGr h h' → J M h' (pc + 3) ls (st)) (hrst : (st.map fun v => v.category).sum ≤ 8 := by first | exact Nat.le_of_ble_eq_true rfl | (simp [jcat_v]; done)) (hnl : ls.length = nL := by rfl) : J M h pc ls stk :=
  J.callIN_ X hd lk ce hM hlv  hst hrst hnl (fun v h' z g => by obtain ⟨rfl, q⟩ := z; exact kr h' q g) (fun _ _ _ z => z.elim)
theorem J.callU_ {idx : Nat} {y : MethodName} {b9 : ByteArray} {maxL lv' : Nat} {rt : Option FieldType} {As stk : List Value} {QR' : JQR} {QX' : JQX} {a : Nat} {ci : Nat} {fs : List Value} {C : String} {T9 : u_T} {N9 : Nat} {x : MethodName} (X : JX M K l0 cc own nL ret nm hh lv h0 QR QX) (hd : decode cc pc = .ok (.invokevirtual idx, 3)) (lk : jLkU own idx x y C As.length) (ce : jCe y b9 maxL rt) (hM : Ct K l0 y (ws_ y b9 maxL rt) lv' (.ref a :: As) h QR' QX') (hlv : lv' + 1 ≤ lv) (hc : jcl[ci]? = some (C, T9, N9)) (hrv : hget h a = some (jO ci fs)) (hst : stk = As.reverse ++ .ref a :: st) (hrst : (st.map fun v => v.category).sum ≤ 8 := by first | exact Nat.le_of_ble_eq_true rfl | (simp [jcat_v]; done)) (hnl : ls.length = nL := by rfl)
    (kr : ∀ (v : Option Value) (h' : JIH), QR' v h' → jGr h h' → J M h' (pc + 3) ls (v.toList ++ st)) (kx : ∀ (x : Nat) (E : String) (h' : JIH), QX' x E h' → jGr h h' → JT M h' pc ls x E) : J M h pc ls stk := by
  obtain ⟨K1, h1, R1, X1, p, l, e, R, s, m, args, below, meth, c⟩ := M
  obtain ⟨⟨rfl, rfl, rfl, rfl, rfl⟩, hx, hb, hml, hown, hr, hlk, hts, F, hW, hR, hs0, hb0, hnm, htab⟩ := X
  intro H locs la hH hlo hla hg
  subst hR
  subst hst
  intro T hT XS
  obtain ⟨ce1, ce2, ce3⟩ := ce
  have hrm := jroom_k (lv := lv) hg hH.2.2.2.2
  have hK9 := ct_back (R := jroom lv h1) (p := p) (e := e) (below := below) (s := s) (sargs := args) (len := 3) hM F hW (jCW.of F ce1 ce2) hlv (by show _ ≤ 64 * lv; omega)
  obtain ⟨cellB, g1, g2, g3⟩ := jcell (jK F hW) hH hc hrv
  rw [← hT] at g1
  obtain ⟨owner, k1, k2, k3, k4, k5, k6, k7⟩ := lk
  exact jcall hlo hla hg kr kx (vx_callVU XS hx hown (hts _ k1) (hts _ k2) (jDecl F hW k3) k4 (hts _ k5) (hts _ k6) (hts _ ce1) hK9 g1 g2 g3 rfl (show la.size = c.maxLocals by rw [hml, ← hnl]; exact hla.1) (argsL := As) (rest := st) (fun sig q => k7 sig q) rfl (lv_room hrst) (by rw [hb]; exact hd) (fun vm₁ hW₁ => ⟨rfl, ⟨State.WarmedH.trans hW hW₁, by rw [← hT] at hH; exact hH⟩, hrm.1, hrm.2⟩))
theorem J.callUv {idx : Nat} {y : MethodName} {b9 : ByteArray} {maxL lv' : Nat} {rt : Option FieldType} {As stk : List Value} {a : Nat} {ci : Nat} {fs : List Value} {C : String} {T9 : u_T} {N9 : Nat} {x : MethodName} {P : JIH → Prop} (X : JX M K l0 cc own nL ret nm hh lv h0 QR QX) (hd : decode cc pc = .ok (.invokevirtual idx, 3)) (lk : jLkU own idx x y C As.length) (ce : jCe y b9 maxL rt) (hM : Ct K l0 y (ws_ y b9 maxL rt) lv' (.ref a :: As) h (jRv P) jNo) (hlv : lv' + 1 ≤ lv) (hc : jcl[ci]? = some (C, T9, N9)) (hrv : hget h a = some (jO ci fs)) (hst : stk = As.reverse ++ .ref a :: st)
    (kr : ∀ (h' : JIH), P h' → jGr h h' → J M h' (pc + 3) ls (st)) (hrst : (st.map fun v => v.category).sum ≤ 8 := by first | exact Nat.le_of_ble_eq_true rfl | (simp [jcat_v]; done)) (hnl : ls.length = nL := by rfl) : J M h pc ls stk :=
  J.callU_ X hd lk ce hM hlv hc hrv hst hrst hnl (fun v h' z g => by obtain ⟨rfl, q⟩ := z; exact kr h' q g) (fun _ _ _ z => z.elim)
theorem J.callUi {idx : Nat} {y : MethodName} {b9 : ByteArray} {maxL lv' : Nat} {rt : Option FieldType} {As stk : List Value} {a : Nat} {ci : Nat} {fs : List Value} {C : String} {T9 : u_T} {N9 : Nat} {x : MethodName} {P : Int32 → JIH → Prop} (X : JX M K l0 cc own nL ret nm hh lv h0 QR QX) (hd : decode cc pc = .ok (.invokevirtual idx, 3)) (lk : jLkU own idx x y C As.length) (ce : jCe y b9 maxL rt) (hM : Ct K l0 y (ws_ y b9 maxL rt) lv' (.ref a :: As) h (jRi P) jNo) (hlv : lv' + 1 ≤ lv) (hc : jcl[ci]? = some (C, T9, N9)) (hrv : hget h a = some (jO ci fs)) (hst : stk = As.reverse ++ .ref a :: st)
    (kr : ∀ (r : Int32) (h' : JIH), P r h' → jGr h h' → J M h' (pc + 3) ls (.int r :: st)) (hrst : (st.map fun v => v.category).sum ≤ 8 := by first | exact Nat.le_of_ble_eq_true rfl | (simp [jcat_v]; done)) (hnl : ls.length = nL := by rfl) : J M h pc ls stk :=
  J.callU_ X hd lk ce hM hlv hc hrv hst hrst hnl (fun v h' z g => by obtain ⟨r, rfl, q⟩ := z; exact kr r h' q g) (fun _ _ _ z => z.elim)
theorem J.callUl {idx : Nat} {y : MethodName} {b9 : ByteArray} {maxL lv' : Nat} {rt : Option FieldType} {As stk : List Value} {a : Nat} {ci : Nat} {fs : List Value} {C : String} {T9 : u_T} {N9 : Nat} {x : MethodName} {P : Int64 → JIH → Prop} (X : JX M K l0 cc own nL ret nm hh lv h0 QR QX) (hd : decode cc pc = .ok (.invokevirtual idx, 3)) (lk : jLkU own idx x y C As.length) (ce : jCe y b9 maxL rt) (hM : Ct K l0 y (ws_ y b9 maxL rt) lv' (.ref a :: As) h (jRl P) jNo) (hlv : lv' + 1 ≤ lv) (hc : jcl[ci]? = some (C, T9, N9)) (hrv : hget h a = some (jO ci fs)) (hst : stk = As.reverse ++ .ref a :: st)
    (kr : ∀ (r : Int64) (h' : JIH), P r h' → jGr h h' → J M h' (pc + 3) ls (.long r :: st)) (hrst : (st.map fun v => v.category).sum ≤ 8 := by first | exact Nat.le_of_ble_eq_true rfl | (simp [jcat_v]; done)) (hnl : ls.length = nL := by rfl) : J M h pc ls stk :=
  J.callU_ X hd lk ce hM hlv hc hrv hst hrst hnl (fun v h' z g => by obtain ⟨r, rfl, q⟩ := z; exact kr r h' q g) (fun _ _ _ z => z.elim)
theorem J.callUa {idx : Nat} {y : MethodName} {b9 : ByteArray} {maxL lv' : Nat} {rt : Option FieldType} {As stk : List Value} {a : Nat} {ci : Nat} {fs : List Value} {C : String} {T9 : u_T} {N9 : Nat} {x : MethodName} {P : Option Nat → JIH → Prop} (X : JX M K l0 cc own nL ret nm hh lv h0 QR QX) (hd : decode cc pc = .ok (.invokevirtual idx, 3)) (lk : jLkU own idx x y C As.length) (ce : jCe y b9 maxL rt) (hM : Ct K l0 y (ws_ y b9 maxL rt) lv' (.ref a :: As) h (jRa P) jNo) (hlv : lv' + 1 ≤ lv) (hc : jcl[ci]? = some (C, T9, N9)) (hrv : hget h a = some (jO ci fs)) (hst : stk = As.reverse ++ .ref a :: st)
    (kr : ∀ (r : Option Nat) (h' : JIH), P r h' → jGr h h' → J M h' (pc + 3) ls (va_rf r :: st)) (hrst : (st.map fun v => v.category).sum ≤ 8 := by first | exact Nat.le_of_ble_eq_true rfl | (simp [jcat_v]; done)) (hnl : ls.length = nL := by rfl) : J M h pc ls stk :=
  J.callU_ X hd lk ce hM hlv hc hrv hst hrst hnl (fun v h' z g => by obtain ⟨r, rfl, q⟩ := z; exact kr r h' q g) (fun _ _ _ z => z.elim)
theorem J.callF_ {idx : Nat} {y : MethodName} {b9 : ByteArray} {maxL lv' : Nat} {rt : Option FieldType} {As stk : List Value} {QR' : JQR} {QX' : JQX} {a : Nat} {ci : Nat} {fs : List Value} {C : String} {T9 : u_T} {N9 : Nat} {x : MethodName} {cnt : Nat} (X : JX M K l0 cc own nL ret nm hh lv h0 QR QX) (hd : decode cc pc = .ok (.invokeinterface idx cnt, 5)) (lk : jLkF own idx x y C As.length) (ce : jCe y b9 maxL rt) (hM : Ct K l0 y (ws_ y b9 maxL rt) lv' (.ref a :: As) h QR' QX') (hlv : lv' + 1 ≤ lv) (hc : jcl[ci]? = some (C, T9, N9)) (hrv : hget h a = some (jO ci fs)) (hst : stk = As.reverse ++ .ref a :: st) (hrst : (st.map fun v => v.category).sum ≤ 8 := by first | exact Nat.le_of_ble_eq_true rfl | (simp [jcat_v]; done)) (hnl : ls.length = nL := by rfl)
    (kr : ∀ (v : Option Value) (h' : JIH), QR' v h' → jGr h h' → J M h' (pc + 5) ls (v.toList ++ st)) (kx : ∀ (x : Nat) (E : String) (h' : JIH), QX' x E h' → jGr h h' → JT M h' pc ls x E) : J M h pc ls stk := by
  obtain ⟨K1, h1, R1, X1, p, l, e, R, s, m, args, below, meth, c⟩ := M
  obtain ⟨⟨rfl, rfl, rfl, rfl, rfl⟩, hx, hb, hml, hown, hr, hlk, hts, F, hW, hR, hs0, hb0, hnm, htab⟩ := X
  intro H locs la hH hlo hla hg
  subst hR
  subst hst
  intro T hT XS
  obtain ⟨ce1, ce2, ce3⟩ := ce
  have hrm := jroom_k (lv := lv) hg hH.2.2.2.2
  have hK9 := ct_back (R := jroom lv h1) (p := p) (e := e) (below := below) (s := s) (sargs := args) (len := 5) hM F hW (jCW.of F ce1 ce2) hlv (by show _ ≤ 64 * lv; omega)
  obtain ⟨cellB, g1, g2, g3⟩ := jcell (jK F hW) hH hc hrv
  rw [← hT] at g1
  obtain ⟨k1, k2, k3, k4, k5, k6, k7, k8, k9, k10⟩ := lk
  obtain ⟨f1, f2, f3, f4, f5⟩ := jFw F hW k9 k2 k3 k6 k7 k8
  obtain ⟨kB, hkB, -⟩ := Vm.findClass_spec g3
  exact jcall hlo hla hg kr kx (vx_callIF XS hx hown (hts _ k1) f1 f2 (hts _ k4) (hts _ k5) f3 f4 f5 (hts _ ce1) k9 hK9 g1 g2 g3 hkB rfl (show la.size = c.maxLocals by rw [hml, ← hnl]; exact hla.1) (argsL := As) (rest := st) (fun sig q => k10 sig q) rfl (lv_room hrst) (by rw [hb]; exact hd) (fun vm₁ hW₁ => ⟨rfl, ⟨State.WarmedH.trans hW hW₁, by rw [← hT] at hH; exact hH⟩, hrm.1, hrm.2⟩))
theorem J.callFv {idx : Nat} {y : MethodName} {b9 : ByteArray} {maxL lv' : Nat} {rt : Option FieldType} {As stk : List Value} {a : Nat} {ci : Nat} {fs : List Value} {C : String} {T9 : u_T} {N9 : Nat} {x : MethodName} {cnt : Nat} {P : JIH → Prop} (X : JX M K l0 cc own nL ret nm hh lv h0 QR QX) (hd : decode cc pc = .ok (.invokeinterface idx cnt, 5)) (lk : jLkF own idx x y C As.length) (ce : jCe y b9 maxL rt) (hM : Ct K l0 y (ws_ y b9 maxL rt) lv' (.ref a :: As) h (jRv P) jNo) (hlv : lv' + 1 ≤ lv) (hc : jcl[ci]? = some (C, T9, N9)) (hrv : hget h a = some (jO ci fs)) (hst : stk = As.reverse ++ .ref a :: st)
    (kr : ∀ (h' : JIH), P h' → jGr h h' → J M h' (pc + 5) ls (st)) (hrst : (st.map fun v => v.category).sum ≤ 8 := by first | exact Nat.le_of_ble_eq_true rfl | (simp [jcat_v]; done)) (hnl : ls.length = nL := by rfl) : J M h pc ls stk :=
  J.callF_ X hd lk ce hM hlv hc hrv hst hrst hnl (fun v h' z g => by obtain ⟨rfl, q⟩ := z; exact kr h' q g) (fun _ _ _ z => z.elim)
theorem J.callFi {idx : Nat} {y : MethodName} {b9 : ByteArray} {maxL lv' : Nat} {rt : Option FieldType} {As stk : List Value} {a : Nat} {ci : Nat} {fs : List Value} {C : String} {T9 : u_T} {N9 : Nat} {x : MethodName} {cnt : Nat} {P : Int32 → JIH → Prop} (X : JX M K l0 cc own nL ret nm hh lv h0 QR QX) (hd : decode cc pc = .ok (.invokeinterface idx cnt, 5)) (lk : jLkF own idx x y C As.length) (ce : jCe y b9 maxL rt) (hM : Ct K l0 y (ws_ y b9 maxL rt) lv' (.ref a :: As) h (jRi P) jNo) (hlv : lv' + 1 ≤ lv) (hc : jcl[ci]? = some (C, T9, N9)) (hrv : hget h a = some (jO ci fs)) (hst : stk = As.reverse ++ .ref a :: st)
    (kr : ∀ (r : Int32) (h' : JIH), P r h' → jGr h h' → J M h' (pc + 5) ls (.int r :: st)) (hrst : (st.map fun v => v.category).sum ≤ 8 := by first | exact Nat.le_of_ble_eq_true rfl | (simp [jcat_v]; done)) (hnl : ls.length = nL := by rfl) : J M h pc ls stk :=
  J.callF_ X hd lk ce hM hlv hc hrv hst hrst hnl (fun v h' z g => by obtain ⟨r, rfl, q⟩ := z; exact kr r h' q g) (fun _ _ _ z => z.elim)
theorem J.callFl {idx : Nat} {y : MethodName} {b9 : ByteArray} {maxL lv' : Nat} {rt : Option FieldType} {As stk : List Value} {a : Nat} {ci : Nat} {fs : List Value} {C : String} {T9 : u_T} {N9 : Nat} {x : MethodName} {cnt : Nat} {P : Int64 → JIH → Prop} (X : JX M K l0 cc own nL ret nm hh lv h0 QR QX) (hd : decode cc pc = .ok (.invokeinterface idx cnt, 5)) (lk : jLkF own idx x y C As.length) (ce : jCe y b9 maxL rt) (hM : Ct K l0 y (ws_ y b9 maxL rt) lv' (.ref a :: As) h (jRl P) jNo) (hlv : lv' + 1 ≤ lv) (hc : jcl[ci]? = some (C, T9, N9)) (hrv : hget h a = some (jO ci fs)) (hst : stk = As.reverse ++ .ref a :: st)
    (kr : ∀ (r : Int64) (h' : JIH), P r h' → jGr h h' → J M h' (pc + 5) ls (.long r :: st)) (hrst : (st.map fun v => v.category).sum ≤ 8 := by first | exact Nat.le_of_ble_eq_true rfl | (simp [jcat_v]; done)) (hnl : ls.length = nL := by rfl) : J M h pc ls stk :=
  J.callF_ X hd lk ce hM hlv hc hrv hst hrst hnl (fun v h' z g => by obtain ⟨r, rfl, q⟩ := z; exact kr r h' q g) (fun _ _ _ z => z.elim)
theorem J.callFa {idx : Nat} {y : MethodName} {b9 : ByteArray} {maxL lv' : Nat} {rt : Option FieldType} {As stk : List Value} {a : Nat} {ci : Nat} {fs : List Value} {C : String} {T9 : u_T} {N9 : Nat} {x : MethodName} {cnt : Nat} {P : Option Nat → JIH → Prop} (X : JX M K l0 cc own nL ret nm hh lv h0 QR QX) (hd : decode cc pc = .ok (.invokeinterface idx cnt, 5)) (lk : jLkF own idx x y C As.length) (ce : jCe y b9 maxL rt) (hM : Ct K l0 y (ws_ y b9 maxL rt) lv' (.ref a :: As) h (jRa P) jNo) (hlv : lv' + 1 ≤ lv) (hc : jcl[ci]? = some (C, T9, N9)) (hrv : hget h a = some (jO ci fs)) (hst : stk = As.reverse ++ .ref a :: st)
    (kr : ∀ (r : Option Nat) (h' : JIH), P r h' → jGr h h' → J M h' (pc + 5) ls (va_rf r :: st)) (hrst : (st.map fun v => v.category).sum ≤ 8 := by first | exact Nat.le_of_ble_eq_true rfl | (simp [jcat_v]; done)) (hnl : ls.length = nL := by rfl) : J M h pc ls stk :=
  J.callF_ X hd lk ce hM hlv hc hrv hst hrst hnl (fun v h' z g => by obtain ⟨r, rfl, q⟩ := z; exact kr r h' q g) (fun _ _ _ z => z.elim)
theorem J.callSU_ {idx : Nat} {y : MethodName} {b9 : ByteArray} {maxL lv' : Nat} {rt : Option FieldType} {As stk : List Value} {QR' : JQR} {QX' : JQX} {a : Nat} {ci : Nat} {fs : List Value} {C : String} {T9 : u_T} {N9 : Nat} (X : JX M K l0 cc own nL ret nm hh lv h0 QR QX) (hd : decode cc pc = .ok (.invokespecial idx, 3)) (lk : jLkSU own idx y As.length) (ce : jCe y b9 maxL rt) (hM : Ct K l0 y (ws_ y b9 maxL rt) lv' (.ref a :: As) h QR' QX') (hlv : lv' + 1 ≤ lv) (hc : jcl[ci]? = some (C, T9, N9)) (hrv : hget h a = some (jO ci fs)) (hst : stk = As.reverse ++ .ref a :: st) (hrst : (st.map fun v => v.category).sum ≤ 8 := by first | exact Nat.le_of_ble_eq_true rfl | (simp [jcat_v]; done)) (hnl : ls.length = nL := by rfl)
    (kr : ∀ (v : Option Value) (h' : JIH), QR' v h' → jGr h h' → J M h' (pc + 3) ls (v.toList ++ st)) (kx : ∀ (x : Nat) (E : String) (h' : JIH), QX' x E h' → jGr h h' → JT M h' pc ls x E) : J M h pc ls stk := by
  obtain ⟨K1, h1, R1, X1, p, l, e, R, s, m, args, below, meth, c⟩ := M
  obtain ⟨⟨rfl, rfl, rfl, rfl, rfl⟩, hx, hb, hml, hown, hr, hlk, hts, F, hW, hR, hs0, hb0, hnm, htab⟩ := X
  intro H locs la hH hlo hla hg
  subst hR
  subst hst
  intro T hT XS
  obtain ⟨ce1, ce2, ce3⟩ := ce
  have hrm := jroom_k (lv := lv) hg hH.2.2.2.2
  have hK9 := ct_back (R := jroom lv h1) (p := p) (e := e) (below := below) (s := s) (sargs := args) (len := 3) hM F hW (jCW.of F ce1 ce2) hlv (by show _ ≤ 64 * lv; omega)
  obtain ⟨cellB, g1, g2, g3⟩ := jcell (jK F hW) hH hc hrv
  rw [← hT] at g1
  obtain ⟨k1, k2, k3, k4, k5, k6⟩ := lk
  obtain ⟨kB, hkB, -⟩ := Vm.findClass_spec g3
  exact jcall hlo hla hg kr kx (vx_callSU XS hx hown (hts _ k1) (hts _ k2) (hts _ k3) (hts _ k4) (hts _ ce1) k5 hK9 g1 g2 hkB rfl (show la.size = c.maxLocals by rw [hml, ← hnl]; exact hla.1) (argsL := As) (rest := st) (fun sig q => k6 sig q) rfl (lv_room hrst) (by rw [hb]; exact hd) (fun vm₁ hW₁ => ⟨rfl, ⟨State.WarmedH.trans hW hW₁, by rw [← hT] at hH; exact hH⟩, hrm.1, hrm.2⟩))
theorem J.callSUv {idx : Nat} {y : MethodName} {b9 : ByteArray} {maxL lv' : Nat} {rt : Option FieldType} {As stk : List Value} {a : Nat} {ci : Nat} {fs : List Value} {C : String} {T9 : u_T} {N9 : Nat} {P : JIH → Prop} (X : JX M K l0 cc own nL ret nm hh lv h0 QR QX) (hd : decode cc pc = .ok (.invokespecial idx, 3)) (lk : jLkSU own idx y As.length) (ce : jCe y b9 maxL rt) (hM : Ct K l0 y (ws_ y b9 maxL rt) lv' (.ref a :: As) h (jRv P) jNo) (hlv : lv' + 1 ≤ lv) (hc : jcl[ci]? = some (C, T9, N9)) (hrv : hget h a = some (jO ci fs)) (hst : stk = As.reverse ++ .ref a :: st)
    (kr : ∀ (h' : JIH), P h' → jGr h h' → J M h' (pc + 3) ls (st)) (hrst : (st.map fun v => v.category).sum ≤ 8 := by first | exact Nat.le_of_ble_eq_true rfl | (simp [jcat_v]; done)) (hnl : ls.length = nL := by rfl) : J M h pc ls stk :=
  J.callSU_ X hd lk ce hM hlv hc hrv hst hrst hnl (fun v h' z g => by obtain ⟨rfl, q⟩ := z; exact kr h' q g) (fun _ _ _ z => z.elim)
theorem J.callSUi {idx : Nat} {y : MethodName} {b9 : ByteArray} {maxL lv' : Nat} {rt : Option FieldType} {As stk : List Value} {a : Nat} {ci : Nat} {fs : List Value} {C : String} {T9 : u_T} {N9 : Nat} {P : Int32 → JIH → Prop} (X : JX M K l0 cc own nL ret nm hh lv h0 QR QX) (hd : decode cc pc = .ok (.invokespecial idx, 3)) (lk : jLkSU own idx y As.length) (ce : jCe y b9 maxL rt) (hM : Ct K l0 y (ws_ y b9 maxL rt) lv' (.ref a :: As) h (jRi P) jNo) (hlv : lv' + 1 ≤ lv) (hc : jcl[ci]? = some (C, T9, N9)) (hrv : hget h a = some (jO ci fs)) (hst : stk = As.reverse ++ .ref a :: st)
    (kr : ∀ (r : Int32) (h' : JIH), P r h' → jGr h h' → J M h' (pc + 3) ls (.int r :: st)) (hrst : (st.map fun v => v.category).sum ≤ 8 := by first | exact Nat.le_of_ble_eq_true rfl | (simp [jcat_v]; done)) (hnl : ls.length = nL := by rfl) : J M h pc ls stk :=
  J.callSU_ X hd lk ce hM hlv hc hrv hst hrst hnl (fun v h' z g => by obtain ⟨r, rfl, q⟩ := z; exact kr r h' q g) (fun _ _ _ z => z.elim)
theorem J.callSUl {idx : Nat} {y : MethodName} {b9 : ByteArray} {maxL lv' : Nat} {rt : Option FieldType} {As stk : List Value} {a : Nat} {ci : Nat} {fs : List Value} {C : String} {T9 : u_T} {N9 : Nat} {P : Int64 → JIH → Prop} (X : JX M K l0 cc own nL ret nm hh lv h0 QR QX) (hd : decode cc pc = .ok (.invokespecial idx, 3)) (lk : jLkSU own idx y As.length) (ce : jCe y b9 maxL rt) (hM : Ct K l0 y (ws_ y b9 maxL rt) lv' (.ref a :: As) h (jRl P) jNo) (hlv : lv' + 1 ≤ lv) (hc : jcl[ci]? = some (C, T9, N9)) (hrv : hget h a = some (jO ci fs)) (hst : stk = As.reverse ++ .ref a :: st)
    (kr : ∀ (r : Int64) (h' : JIH), P r h' → jGr h h' → J M h' (pc + 3) ls (.long r :: st)) (hrst : (st.map fun v => v.category).sum ≤ 8 := by first | exact Nat.le_of_ble_eq_true rfl | (simp [jcat_v]; done)) (hnl : ls.length = nL := by rfl) : J M h pc ls stk :=
  J.callSU_ X hd lk ce hM hlv hc hrv hst hrst hnl (fun v h' z g => by obtain ⟨r, rfl, q⟩ := z; exact kr r h' q g) (fun _ _ _ z => z.elim)
theorem J.callSUa {idx : Nat} {y : MethodName} {b9 : ByteArray} {maxL lv' : Nat} {rt : Option FieldType} {As stk : List Value} {a : Nat} {ci : Nat} {fs : List Value} {C : String} {T9 : u_T} {N9 : Nat} {P : Option Nat → JIH → Prop} (X : JX M K l0 cc own nL ret nm hh lv h0 QR QX) (hd : decode cc pc = .ok (.invokespecial idx, 3)) (lk : jLkSU own idx y As.length) (ce : jCe y b9 maxL rt) (hM : Ct K l0 y (ws_ y b9 maxL rt) lv' (.ref a :: As) h (jRa P) jNo) (hlv : lv' + 1 ≤ lv) (hc : jcl[ci]? = some (C, T9, N9)) (hrv : hget h a = some (jO ci fs)) (hst : stk = As.reverse ++ .ref a :: st)
    (kr : ∀ (r : Option Nat) (h' : JIH), P r h' → jGr h h' → J M h' (pc + 3) ls (va_rf r :: st)) (hrst : (st.map fun v => v.category).sum ≤ 8 := by first | exact Nat.le_of_ble_eq_true rfl | (simp [jcat_v]; done)) (hnl : ls.length = nL := by rfl) : J M h pc ls stk :=
  J.callSU_ X hd lk ce hM hlv hc hrv hst hrst hnl (fun v h' z g => by obtain ⟨r, rfl, q⟩ := z; exact kr r h' q g) (fun _ _ _ z => z.elim)
end JR
