/-! a LinkedHashMap's cells -/
def lmO (ea : Nat → Nat) (tb es ks vs : Option Nat) (sz : Nat) (mc : Int32) (th : Nat) (lf : Value) (hd tl : Option Nat) : List Value := [va_rf tb, va_rf es, .int (nI sz), .int mc, .int (nI th), lf, va_rf ks, va_rf vs, va_rf (hd.map ea), va_rf (tl.map ea), .int (nI 0), .int (nI 0)]
def enO (ea ka ta : Nat → Nat) (nx bf af : Nat → Option Nat) (k : Nat) : List Value := [.int (nI (hsh k)), .ref (ka k), .ref (ta k), va_rf ((nx k).map ea), va_rf ((bf k).map ea), va_rf ((af k).map ea)]
def LmR (K : JK) (t : Nat) (h : JIH) (m : Nat) (D : List Nat) (ea : Nat → Nat) (ka : Nat → Nat) (ta : Nat → Nat) (nx : Nat → Option Nat) (bf : Nat → Option Nat) (af : Nat → Option Nat) (tb : Option Nat) (n : Nat) (f : Nat → Option Nat) (es : Option Nat) (ks : Option Nat) (vs : Option Nat) (sz : Nat) (mc : Int32) (th : Nat) (lf : Value) (hd : Option Nat) (tl : Option Nat) : Prop := hc h t m (jO 12 (lmO ea tb es ks vs sz mc th lf hd tl)) ∧ (∀ k ∈ D, k < 400 ∧ hc h t (ea k) (jO 13 (enO ea ka ta nx bf af k))) ∧ (∀ a, tb = some a → hc h t a (jAR K 6 n f)) ∧ (∀ a, es = some a → hc h t a (jO 19 [.int (nI 0), .ref m])) ∧ (∀ a, ks = some a → hc h t a (jO 20 [.int (nI 0), .ref m])) ∧ (∀ a, vs = some a → hc h t a (jO 21 [.int (nI 0), .ref m]))
def LmS (K : JK) (t c : Nat) (h0 h : JIH) (m : Nat) (D : List Nat) (ea : Nat → Nat) (ka : Nat → Nat) (ta : Nat → Nat) (nx : Nat → Option Nat) (bf : Nat → Option Nat) (af : Nat → Option Nat) (tb : Option Nat) (n : Nat) (f : Nat → Option Nat) (es : Option Nat) (ks : Option Nat) (vs : Option Nat) (sz : Nat) (mc : Int32) (th : Nat) (lf : Value) (hd : Option Nat) (tl : Option Nat) : Prop := LmR K t h m D ea ka ta nx bf af tb n f es ks vs sz mc th lf hd tl ∧ Fr (fun x => x = t) h0 h ∧ hres h = hres h0 + c
section
variable {K : JK} {t c : Nat} {h0 h h2 : JIH} {m : Nat} {D : List Nat} {ea : Nat → Nat} {ka : Nat → Nat} {ta : Nat → Nat} {nx : Nat → Option Nat} {bf : Nat → Option Nat} {af : Nat → Option Nat} {tb : Option Nat} {n : Nat} {f : Nat → Option Nat} {es : Option Nat} {ks : Option Nat} {vs : Option Nat} {sz : Nat} {mc : Int32} {th : Nat} {lf : Value} {hd : Option Nat} {tl : Option Nat}
theorem LmR.S (T : LmR K t h m D ea ka ta nx bf af tb n f es ks vs sz mc th lf hd tl) : LmS K t 0 h h m D ea ka ta nx bf af tb n f es ks vs sz mc th lf hd tl := ⟨T, Fr.rf _ h, rfl⟩
theorem LmR.fr {T : Nat → Prop} (S : LmR K t h m D ea ka ta nx bf af tb n f es ks vs sz mc th lf hd tl) (g : Fr T h h2) (ht : ¬ T t) : LmR K t h2 m D ea ka ta nx bf af tb n f es ks vs sz mc th lf hd tl := ⟨S.1.fr g ht, fun k hk => ⟨(S.2.1 k hk).1, (S.2.1 k hk).2.fr g ht⟩, fun a ha => (S.2.2.1 a ha).fr g ht, fun a ha => (S.2.2.2.1 a ha).fr g ht, fun a ha => (S.2.2.2.2.1 a ha).fr g ht, fun a ha => (S.2.2.2.2.2 a ha).fr g ht⟩
theorem LmS.o (S : LmS K t c h0 h m D ea ka ta nx bf af tb n f es ks vs sz mc th lf hd tl) : hget h m = some (jO 12 (lmO ea tb es ks vs sz mc th lf hd tl)) := S.1.1.1
theorem LmS.e (S : LmS K t c h0 h m D ea ka ta nx bf af tb n f es ks vs sz mc th lf hd tl) {k : Nat} (hk : k ∈ D) : hget h (ea k) = some (jO 13 (enO ea ka ta nx bf af k)) := (S.1.2.1 k hk).2.1
theorem LmS.k (S : LmS K t c h0 h m D ea ka ta nx bf af tb n f es ks vs sz mc th lf hd tl) {k : Nat} (hk : k ∈ D) : k < 400 := (S.1.2.1 k hk).1
theorem LmS.tt (S : LmS K t c h0 h m D ea ka ta nx bf af tb n f es ks vs sz mc th lf hd tl) {a : Nat} (ha : tb = some a) : hget h a = some (jAR K 6 n f) := (S.1.2.2.1 a ha).1
theorem LmR.ap (S : LmR K t h m D ea ka ta nx bf af tb n f es ks vs sz mc th lf hd tl) {k j : Nat} (hk : k ∈ D) (hj : j ∈ D) (n9 : k ≠ j) : ea k ≠ ea j := by
  refine (S.2.1 k hk).2.apE (S.2.1 j hj).2 (fun z => n9 ?_)
  have h1 := (jO_inj z).2
  injection h1 with h2 h3
  injection h2 with h2
  have hk4 := (S.2.1 k hk).1; have hj4 := (S.2.1 j hj).1
  have := hsh_lt hk4; have := hsh_lt hj4
  exact hsh_inj (nI_inj (by omega) (by omega) h2)
theorem LmR.apo (S : LmR K t h m D ea ka ta nx bf af tb n f es ks vs sz mc th lf hd tl) {k : Nat} (hk : k ∈ D) : m ≠ ea k := S.1.apE (S.2.1 k hk).2 (jO_ne (by decide))
theorem LmR.apt (S : LmR K t h m D ea ka ta nx bf af tb n f es ks vs sz mc th lf hd tl) {k a : Nat} (hk : k ∈ D) (ha : tb = some a) : ea k ≠ a := (S.2.1 k hk).2.apE (S.2.2.1 a ha) (fun z => by cases z)
theorem LmR.apmt (S : LmR K t h m D ea ka ta nx bf af tb n f es ks vs sz mc th lf hd tl) {a : Nat} (ha : tb = some a) : m ≠ a := S.1.apE (S.2.2.1 a ha) (fun z => by cases z)
/-- a store at the map itself -/
theorem LmS.w_o {sz' : Nat} {mc' : Int32} {th' : Nat} {hd' tl' : Option Nat} (S : LmS K t c h0 h m D ea ka ta nx bf af tb n f es ks vs sz mc th lf hd tl) : LmS K t c h0 (hset h m (jO 12 (lmO ea tb es ks vs sz' mc' th' lf hd' tl'))) m D ea ka ta nx bf af tb n f es ks vs sz' mc' th' lf hd' tl' := by
  refine ⟨⟨S.1.1.same _, fun k hk => ⟨(S.1.2.1 k hk).1, (S.1.2.1 k hk).2.ne _ (S.1.apo hk)⟩, fun a ha => (S.1.2.2.1 a ha).ne _ (S.1.apmt ha), fun a ha => (S.1.2.2.2.1 a ha).ne _ (S.1.1.apE (S.1.2.2.2.1 a ha) (jO_ne (by decide))), fun a ha => (S.1.2.2.2.2.1 a ha).ne _ (S.1.1.apE (S.1.2.2.2.2.1 a ha) (jO_ne (by decide))), fun a ha => (S.1.2.2.2.2.2 a ha).ne _ (S.1.1.apE (S.1.2.2.2.2.2 a ha) (jO_ne (by decide)))⟩, S.2.1.tr (Fr.set S.1.1 rfl), by refine (hres_setS S.1.1 ?_).trans S.2.2; rfl⟩
/-- the map's table is another one -/
theorem LmS.w_tb {a n' : Nat} {f' : Nat → Option Nat} (S : LmS K t c h0 h m D ea ka ta nx bf af tb n f es ks vs sz mc th lf hd tl) (ha : hc h t a (jAR K 6 n' f')) : LmS K t c h0 (hset h m (jO 12 (lmO ea (some a) es ks vs sz mc th lf hd tl))) m D ea ka ta nx bf af (some a) n' f' es ks vs sz mc th lf hd tl := by
  refine ⟨⟨S.1.1.same _, fun k hk => ⟨(S.1.2.1 k hk).1, (S.1.2.1 k hk).2.ne _ (S.1.apo hk)⟩, fun b hb => by cases hb; exact ha.ne _ (S.1.1.apE ha (fun z => by cases z)), fun a ha => (S.1.2.2.2.1 a ha).ne _ (S.1.1.apE (S.1.2.2.2.1 a ha) (jO_ne (by decide))), fun a ha => (S.1.2.2.2.2.1 a ha).ne _ (S.1.1.apE (S.1.2.2.2.2.1 a ha) (jO_ne (by decide))), fun a ha => (S.1.2.2.2.2.2 a ha).ne _ (S.1.1.apE (S.1.2.2.2.2.2 a ha) (jO_ne (by decide)))⟩, S.2.1.tr (Fr.set S.1.1 rfl), by refine (hres_setS S.1.1 ?_).trans S.2.2; rfl⟩
theorem LmS.w_es {a : Nat} (S : LmS K t c h0 h m D ea ka ta nx bf af tb n f es ks vs sz mc th lf hd tl) (ha : hc h t a (jO 19 [.int (nI 0), .ref m])) : LmS K t c h0 (hset h m (jO 12 (lmO ea tb (some a) ks vs sz mc th lf hd tl))) m D ea ka ta nx bf af tb n f (some a) ks vs sz mc th lf hd tl := by
  exact ⟨⟨S.1.1.same _, fun k hk => ⟨(S.1.2.1 k hk).1, (S.1.2.1 k hk).2.ne _ (S.1.apo hk)⟩, fun a ha => (S.1.2.2.1 a ha).ne _ (S.1.apmt ha), fun b hb => by cases hb; exact ha.ne _ (S.1.1.apE ha (jO_ne (by decide))), fun b hb => (S.1.2.2.2.2.1 b hb).ne _ (S.1.1.apE (S.1.2.2.2.2.1 b hb) (jO_ne (by decide))), fun b hb => (S.1.2.2.2.2.2 b hb).ne _ (S.1.1.apE (S.1.2.2.2.2.2 b hb) (jO_ne (by decide)))⟩, S.2.1.tr (Fr.set S.1.1 rfl), by refine (hres_setS S.1.1 ?_).trans S.2.2; rfl⟩
theorem LmS.w_ks {a : Nat} (S : LmS K t c h0 h m D ea ka ta nx bf af tb n f es ks vs sz mc th lf hd tl) (ha : hc h t a (jO 20 [.int (nI 0), .ref m])) : LmS K t c h0 (hset h m (jO 12 (lmO ea tb es (some a) vs sz mc th lf hd tl))) m D ea ka ta nx bf af tb n f es (some a) vs sz mc th lf hd tl := by
  exact ⟨⟨S.1.1.same _, fun k hk => ⟨(S.1.2.1 k hk).1, (S.1.2.1 k hk).2.ne _ (S.1.apo hk)⟩, fun a ha => (S.1.2.2.1 a ha).ne _ (S.1.apmt ha), fun b hb => (S.1.2.2.2.1 b hb).ne _ (S.1.1.apE (S.1.2.2.2.1 b hb) (jO_ne (by decide))), fun b hb => by cases hb; exact ha.ne _ (S.1.1.apE ha (jO_ne (by decide))), fun b hb => (S.1.2.2.2.2.2 b hb).ne _ (S.1.1.apE (S.1.2.2.2.2.2 b hb) (jO_ne (by decide)))⟩, S.2.1.tr (Fr.set S.1.1 rfl), by refine (hres_setS S.1.1 ?_).trans S.2.2; rfl⟩
theorem LmS.w_vs {a : Nat} (S : LmS K t c h0 h m D ea ka ta nx bf af tb n f es ks vs sz mc th lf hd tl) (ha : hc h t a (jO 21 [.int (nI 0), .ref m])) : LmS K t c h0 (hset h m (jO 12 (lmO ea tb es ks (some a) sz mc th lf hd tl))) m D ea ka ta nx bf af tb n f es ks (some a) sz mc th lf hd tl := by
  exact ⟨⟨S.1.1.same _, fun k hk => ⟨(S.1.2.1 k hk).1, (S.1.2.1 k hk).2.ne _ (S.1.apo hk)⟩, fun a ha => (S.1.2.2.1 a ha).ne _ (S.1.apmt ha), fun b hb => (S.1.2.2.2.1 b hb).ne _ (S.1.1.apE (S.1.2.2.2.1 b hb) (jO_ne (by decide))), fun b hb => (S.1.2.2.2.2.1 b hb).ne _ (S.1.1.apE (S.1.2.2.2.2.1 b hb) (jO_ne (by decide))), fun b hb => by cases hb; exact ha.ne _ (S.1.1.apE ha (jO_ne (by decide)))⟩, S.2.1.tr (Fr.set S.1.1 rfl), by refine (hres_setS S.1.1 ?_).trans S.2.2; rfl⟩
/-- a store at an entry -/
theorem LmS.w_e {nx' bf' af' : Nat → Option Nat} {k : Nat} (S : LmS K t c h0 h m D ea ka ta nx bf af tb n f es ks vs sz mc th lf hd tl) (hk : k ∈ D) (h1 : ∀ j, j ≠ k → nx' j = nx j ∧ bf' j = bf j ∧ af' j = af j) : LmS K t c h0 (hset h (ea k) (jO 13 (enO ea ka ta nx' bf' af' k))) m D ea ka ta nx' bf' af' tb n f es ks vs sz mc th lf hd tl := by
  have ck := (S.1.2.1 k hk).2
  refine ⟨⟨S.1.1.ne _ (S.1.apo hk).symm, fun j hj => ⟨(S.1.2.1 j hj).1, ?_⟩, fun a ha => (S.1.2.2.1 a ha).ne _ (S.1.apt hk ha), fun a ha => (S.1.2.2.2.1 a ha).ne _ (ck.apE (S.1.2.2.2.1 a ha) (jO_ne (by decide))), fun a ha => (S.1.2.2.2.2.1 a ha).ne _ (ck.apE (S.1.2.2.2.2.1 a ha) (jO_ne (by decide))), fun a ha => (S.1.2.2.2.2.2 a ha).ne _ (ck.apE (S.1.2.2.2.2.2 a ha) (jO_ne (by decide)))⟩, S.2.1.tr (Fr.set ck rfl), by refine (hres_setS ck ?_).trans S.2.2; rfl⟩
  by_cases e : j = k
  · subst e; exact ck.same _
  · have := (S.1.2.1 j hj).2.ne (jO 13 (enO ea ka ta nx' bf' af' k)) (S.1.ap hk hj (fun z => e z.symm))
    have e3 : enO ea ka ta nx bf af j = enO ea ka ta nx' bf' af' j := by unfold enO; rw [(h1 j e).1, (h1 j e).2.1, (h1 j e).2.2]
    rw [e3] at this; exact this
/-- a store in the table -/
theorem LmS.w_f {a : Nat} {f' : Nat → Option Nat} (S : LmS K t c h0 h m D ea ka ta nx bf af tb n f es ks vs sz mc th lf hd tl) (ha : tb = some a) : LmS K t c h0 (hset h a (jAR K 6 n f')) m D ea ka ta nx bf af tb n f' es ks vs sz mc th lf hd tl := by
  have ca := S.1.2.2.1 a ha
  exact ⟨⟨S.1.1.ne _ (S.1.apmt ha).symm, fun j hj => ⟨(S.1.2.1 j hj).1, (S.1.2.1 j hj).2.ne _ (S.1.apt hj ha).symm⟩, fun b hb => by cases ha.symm.trans hb; exact ca.same _, fun b hb => (S.1.2.2.2.1 b hb).ne _ (ca.apE (S.1.2.2.2.1 b hb) (fun z => by cases z)), fun b hb => (S.1.2.2.2.2.1 b hb).ne _ (ca.apE (S.1.2.2.2.2.1 b hb) (fun z => by cases z)), fun b hb => (S.1.2.2.2.2.2 b hb).ne _ (ca.apE (S.1.2.2.2.2.2 b hb) (fun z => by cases z))⟩, S.2.1.tr (Fr.set ca rfl), by refine (hres_setS ca ?_).trans S.2.2; rfl⟩
theorem LmR.push (t1 : Nat) (e1 : va_E) (S : LmR K t h m D ea ka ta nx bf af tb n f es ks vs sz mc th lf hd tl) : LmR K t (hpush h t1 e1) m D ea ka ta nx bf af tb n f es ks vs sz mc th lf hd tl := ⟨S.1.push _ _, fun k hk => ⟨(S.2.1 k hk).1, (S.2.1 k hk).2.push _ _⟩, fun a ha => (S.2.2.1 a ha).push _ _, fun a ha => (S.2.2.2.1 a ha).push _ _, fun a ha => (S.2.2.2.2.1 a ha).push _ _, fun a ha => (S.2.2.2.2.2 a ha).push _ _⟩
theorem LmS.push (t1 : Nat) (e1 : va_E) (S : LmS K t c h0 h m D ea ka ta nx bf af tb n f es ks vs sz mc th lf hd tl) : LmS K t (c + (8 + esz e1)) h0 (hpush h t1 e1) m D ea ka ta nx bf af tb n f es ks vs sz mc th lf hd tl := ⟨S.1.push t1 e1, S.2.1.tr (Fr.push _ _ _ _), by rw [hres_push, S.2.2]; omega⟩
/-- a cell of the map's tag that is none of its own changes -/
theorem LmS.w_x {a : Nat} {e0 e : va_E} (S : LmS K t c h0 h m D ea ka ta nx bf af tb n f es ks vs sz mc th lf hd tl) (ha : hc h t a e0) (hz : esz e = esz e0) (n1 : a ≠ m) (n2 : ∀ k ∈ D, a ≠ ea k) (n3 : ∀ b, tb = some b → a ≠ b) (n4 : ∀ b, es = some b → a ≠ b) (n5 : ∀ b, ks = some b → a ≠ b) (n6 : ∀ b, vs = some b → a ≠ b) : LmS K t c h0 (hset h a e) m D ea ka ta nx bf af tb n f es ks vs sz mc th lf hd tl :=
  ⟨⟨S.1.1.ne _ n1, fun k hk => ⟨(S.1.2.1 k hk).1, (S.1.2.1 k hk).2.ne _ (n2 k hk)⟩, fun b hb => (S.1.2.2.1 b hb).ne _ (n3 b hb), fun b hb => (S.1.2.2.2.1 b hb).ne _ (n4 b hb), fun b hb => (S.1.2.2.2.2.1 b hb).ne _ (n5 b hb), fun b hb => (S.1.2.2.2.2.2 b hb).ne _ (n6 b hb)⟩, S.2.1.tr (Fr.set ha rfl), (hres_setS ha hz).trans S.2.2⟩
/-- another entry is known -/
theorem LmR.addE {k a x y : Nat} (S : LmR K t h m D ea ka ta nx bf af tb n f es ks vs sz mc th lf hd tl) (hk : k ∉ D) (hk4 : k < 400) (hd1 : hd ≠ some k) (tl1 : tl ≠ some k) (h1 : ∀ j ∈ D, nx j ≠ some k ∧ bf j ≠ some k ∧ af j ≠ some k) (ha : hc h t a (jO 13 [.int (nI (hsh k)), .ref x, .ref y, .null, .null, .null])) : LmR K t h m (k :: D) (va_up ea k a) (va_up ka k x) (va_up ta k y) (va_up nx k none) (va_up bf k none) (va_up af k none) tb n f es ks vs sz mc th lf hd tl := by
  have em : ∀ r : Option Nat, r ≠ some k → r.map (va_up ea k a) = r.map ea := by
    intro r hr
    cases r with
    | none => rfl
    | some j => show some _ = some _; rw [va_up_ne _ _ (fun z => hr (by rw [z]))]
  refine ⟨?_, fun j hj => ?_, S.2.2⟩
  · have e1 : lmO (va_up ea k a) tb es ks vs sz mc th lf hd tl = lmO ea tb es ks vs sz mc th lf hd tl := by unfold lmO; rw [em hd hd1, em tl tl1]
    rw [e1]; exact S.1
  · rcases List.mem_cons.mp hj with rfl | hj
    · refine ⟨hk4, ?_⟩
      have e2 : enO (va_up ea j a) (va_up ka j x) (va_up ta j y) (va_up nx j none) (va_up bf j none) (va_up af j none) j = [.int (nI (hsh j)), .ref x, .ref y, .null, .null, .null] := by unfold enO; simp only [va_up_self]; rfl
      rw [e2, va_up_self]; exact ha
    · have e : j ≠ k := fun z => hk (z ▸ hj)
      refine ⟨(S.2.1 j hj).1, ?_⟩
      have e2 : enO (va_up ea k a) (va_up ka k x) (va_up ta k y) (va_up nx k none) (va_up bf k none) (va_up af k none) j = enO ea ka ta nx bf af j := by unfold enO; rw [va_up_ne _ _ e, va_up_ne _ _ e, va_up_ne _ _ e, va_up_ne _ _ e, va_up_ne _ _ e, em _ (h1 j hj).1, em _ (h1 j hj).2.1, em _ (h1 j hj).2.2]
      rw [e2, va_up_ne _ _ e]; exact (S.2.1 j hj).2
end
section JR
variable {M : JM} {K : JK} {l0 : Launch} {cc : ByteArray} {own : String} {nL : Nat} {ret : Option FieldType} {nm : String} {hh : List (Nat × Nat × Nat × Nat)} {lv : Nat} {h0 : JIH} {QR : JQR} {QX : JQX} {h hs : JIH} {pc : Nat} {ls : List (Option Value)} {st : List Value}
variable {t c m : Nat} {D : List Nat} {ea : Nat → Nat} {ka : Nat → Nat} {ta : Nat → Nat} {nx : Nat → Option Nat} {bf : Nat → Option Nat} {af : Nat → Option Nat} {tb : Option Nat} {n : Nat} {f : Nat → Option Nat} {es : Option Nat} {ks : Option Nat} {vs : Option Nat} {sz : Nat} {mc : Int32} {th : Nat} {lf : Value} {hd : Option Nat} {tl : Option Nat}
theorem J.lm_nx {idx k : Nat} {x : Option Nat} {v : Value} (X : JX M K l0 cc own nL ret nm hh lv h0 QR QX) (hd9 : decode cc pc = .ok (.putfield idx, 3)) (pl : jPL own nm idx 13 3 (.object "java/util/HashMap$Node")) (S : LmS K t c hs h m D ea ka ta nx bf af tb n f es ks vs sz mc th lf hd tl) (hk : k ∈ D) (hv : va_rf (x.map ea) = v) (kk : ∀ h' : JIH, LmS K t c hs h' m D ea ka ta (va_up nx k x) bf af tb n f es ks vs sz mc th lf hd tl → J M h' (pc + 3) ls st) : J M h pc ls (v :: .ref (ea k) :: st) := by
  subst hv
  refine J.putf X hd9 pl (S.e hk) (by show 3 < 6; decide) (nar_rf _ _) (fit_rf _ _) ?_
  have e : (enO ea ka ta nx bf af k).set 3 (va_rf (x.map ea)) = enO ea ka ta (va_up nx k x) bf af k := by unfold enO; rw [va_up_self]; rfl
  rw [e]
  exact kk _ (S.w_e hk (fun j hj => ⟨va_up_ne _ _ hj, rfl, rfl⟩))
theorem J.lm_bf {idx k : Nat} {x : Option Nat} {v : Value} (X : JX M K l0 cc own nL ret nm hh lv h0 QR QX) (hd9 : decode cc pc = .ok (.putfield idx, 3)) (pl : jPL own nm idx 13 4 (.object "java/util/LinkedHashMap$Entry")) (S : LmS K t c hs h m D ea ka ta nx bf af tb n f es ks vs sz mc th lf hd tl) (hk : k ∈ D) (hv : va_rf (x.map ea) = v) (kk : ∀ h' : JIH, LmS K t c hs h' m D ea ka ta nx (va_up bf k x) af tb n f es ks vs sz mc th lf hd tl → J M h' (pc + 3) ls st) : J M h pc ls (v :: .ref (ea k) :: st) := by
  subst hv
  refine J.putf X hd9 pl (S.e hk) (by show 4 < 6; decide) (nar_rf _ _) (fit_rf _ _) ?_
  have e : (enO ea ka ta nx bf af k).set 4 (va_rf (x.map ea)) = enO ea ka ta nx (va_up bf k x) af k := by unfold enO; rw [va_up_self]; rfl
  rw [e]
  exact kk _ (S.w_e hk (fun j hj => ⟨rfl, va_up_ne _ _ hj, rfl⟩))
theorem J.lm_af {idx k : Nat} {x : Option Nat} {v : Value} (X : JX M K l0 cc own nL ret nm hh lv h0 QR QX) (hd9 : decode cc pc = .ok (.putfield idx, 3)) (pl : jPL own nm idx 13 5 (.object "java/util/LinkedHashMap$Entry")) (S : LmS K t c hs h m D ea ka ta nx bf af tb n f es ks vs sz mc th lf hd tl) (hk : k ∈ D) (hv : va_rf (x.map ea) = v) (kk : ∀ h' : JIH, LmS K t c hs h' m D ea ka ta nx bf (va_up af k x) tb n f es ks vs sz mc th lf hd tl → J M h' (pc + 3) ls st) : J M h pc ls (v :: .ref (ea k) :: st) := by
  subst hv
  refine J.putf X hd9 pl (S.e hk) (by show 5 < 6; decide) (nar_rf _ _) (fit_rf _ _) ?_
  have e : (enO ea ka ta nx bf af k).set 5 (va_rf (x.map ea)) = enO ea ka ta nx bf (va_up af k x) k := by unfold enO; rw [va_up_self]; rfl
  rw [e]
  exact kk _ (S.w_e hk (fun j hj => ⟨rfl, rfl, va_up_ne _ _ hj⟩))
theorem J.lm_sz {idx : Nat} {x : Nat} {v : Value} (X : JX M K l0 cc own nL ret nm hh lv h0 QR QX) (hd9 : decode cc pc = .ok (.putfield idx, 3)) (pl : jPL own nm idx 12 2 .int) (S : LmS K t c hs h m D ea ka ta nx bf af tb n f es ks vs sz mc th lf hd tl) (hv : .int (nI x) = v) (kk : ∀ h' : JIH, LmS K t c hs h' m D ea ka ta nx bf af tb n f es ks vs x mc th lf hd tl → J M h' (pc + 3) ls st) : J M h pc ls (v :: .ref m :: st) := by
  subst hv
  exact J.putf X hd9 pl S.o (by show 2 < 12; decide) rfl rfl (kk _ S.w_o)
theorem J.lm_mc {idx : Nat} {x : Int32} {v : Value} (X : JX M K l0 cc own nL ret nm hh lv h0 QR QX) (hd9 : decode cc pc = .ok (.putfield idx, 3)) (pl : jPL own nm idx 12 3 .int) (S : LmS K t c hs h m D ea ka ta nx bf af tb n f es ks vs sz mc th lf hd tl) (hv : .int x = v) (kk : ∀ h' : JIH, LmS K t c hs h' m D ea ka ta nx bf af tb n f es ks vs sz x th lf hd tl → J M h' (pc + 3) ls st) : J M h pc ls (v :: .ref m :: st) := by
  subst hv
  exact J.putf X hd9 pl S.o (by show 3 < 12; decide) rfl rfl (kk _ S.w_o)
theorem J.lm_th {idx : Nat} {x : Nat} {v : Value} (X : JX M K l0 cc own nL ret nm hh lv h0 QR QX) (hd9 : decode cc pc = .ok (.putfield idx, 3)) (pl : jPL own nm idx 12 4 .int) (S : LmS K t c hs h m D ea ka ta nx bf af tb n f es ks vs sz mc th lf hd tl) (hv : .int (nI x) = v) (kk : ∀ h' : JIH, LmS K t c hs h' m D ea ka ta nx bf af tb n f es ks vs sz mc x lf hd tl → J M h' (pc + 3) ls st) : J M h pc ls (v :: .ref m :: st) := by
  subst hv
  exact J.putf X hd9 pl S.o (by show 4 < 12; decide) rfl rfl (kk _ S.w_o)
theorem J.lm_hd {idx : Nat} {x : Option Nat} {v : Value} (X : JX M K l0 cc own nL ret nm hh lv h0 QR QX) (hd9 : decode cc pc = .ok (.putfield idx, 3)) (pl : jPL own nm idx 12 8 (.object "java/util/LinkedHashMap$Entry")) (S : LmS K t c hs h m D ea ka ta nx bf af tb n f es ks vs sz mc th lf hd tl) (hv : va_rf (x.map ea) = v) (kk : ∀ h' : JIH, LmS K t c hs h' m D ea ka ta nx bf af tb n f es ks vs sz mc th lf x tl → J M h' (pc + 3) ls st) : J M h pc ls (v :: .ref m :: st) := by
  subst hv
  exact J.putf X hd9 pl S.o (by show 8 < 12; decide) (nar_rf _ _) (fit_rf _ _) (kk _ S.w_o)
theorem J.lm_tl {idx : Nat} {x : Option Nat} {v : Value} (X : JX M K l0 cc own nL ret nm hh lv h0 QR QX) (hd9 : decode cc pc = .ok (.putfield idx, 3)) (pl : jPL own nm idx 12 9 (.object "java/util/LinkedHashMap$Entry")) (S : LmS K t c hs h m D ea ka ta nx bf af tb n f es ks vs sz mc th lf hd tl) (hv : va_rf (x.map ea) = v) (kk : ∀ h' : JIH, LmS K t c hs h' m D ea ka ta nx bf af tb n f es ks vs sz mc th lf hd x → J M h' (pc + 3) ls st) : J M h pc ls (v :: .ref m :: st) := by
  subst hv
  exact J.putf X hd9 pl S.o (by show 9 < 12; decide) (nar_rf _ _) (fit_rf _ _) (kk _ S.w_o)
theorem J.lm_tb {idx a n' : Nat} {f' : Nat → Option Nat} (X : JX M K l0 cc own nL ret nm hh lv h0 QR QX) (hd9 : decode cc pc = .ok (.putfield idx, 3)) (pl : jPL own nm idx 12 0 (.array (.object "java/util/HashMap$Node"))) (S : LmS K t c hs h m D ea ka ta nx bf af tb n f es ks vs sz mc th lf hd tl) (ha : hc h t a (jAR K 6 n' f')) (kk : ∀ h' : JIH, LmS K t c hs h' m D ea ka ta nx bf af (some a) n' f' es ks vs sz mc th lf hd tl → h' = hset h m (jO 12 (lmO ea (some a) es ks vs sz mc th lf hd tl)) → J M h' (pc + 3) ls st) : J M h pc ls (.ref a :: .ref m :: st) := J.putf X hd9 pl S.o (by show 0 < 12; decide) (nar_rA (some a) _) (fit_rA (some a) _) (kk _ (S.w_tb ha) rfl)
theorem J.lm_es {idx a : Nat} (X : JX M K l0 cc own nL ret nm hh lv h0 QR QX) (hd9 : decode cc pc = .ok (.putfield idx, 3)) (pl : jPL own nm idx 12 1 (.object "java/util/Set")) (S : LmS K t c hs h m D ea ka ta nx bf af tb n f es ks vs sz mc th lf hd tl) (ha : hc h t a (jO 19 [.int (nI 0), .ref m])) (kk : ∀ h' : JIH, LmS K t c hs h' m D ea ka ta nx bf af tb n f (some a) ks vs sz mc th lf hd tl → J M h' (pc + 3) ls st) : J M h pc ls (.ref a :: .ref m :: st) := J.putf X hd9 pl S.o (by show 1 < 12; decide) (nar_rf (some a) _) (fit_rf (some a) _) (kk _ (S.w_es ha))
theorem J.lm_ks {idx a : Nat} (X : JX M K l0 cc own nL ret nm hh lv h0 QR QX) (hd9 : decode cc pc = .ok (.putfield idx, 3)) (pl : jPL own nm idx 12 6 (.object "java/util/Set")) (S : LmS K t c hs h m D ea ka ta nx bf af tb n f es ks vs sz mc th lf hd tl) (ha : hc h t a (jO 20 [.int (nI 0), .ref m])) (kk : ∀ h' : JIH, LmS K t c hs h' m D ea ka ta nx bf af tb n f es (some a) vs sz mc th lf hd tl → J M h' (pc + 3) ls st) : J M h pc ls (.ref a :: .ref m :: st) := J.putf X hd9 pl S.o (by show 6 < 12; decide) (nar_rf (some a) _) (fit_rf (some a) _) (kk _ (S.w_ks ha))
theorem J.lm_vs {idx a : Nat} (X : JX M K l0 cc own nL ret nm hh lv h0 QR QX) (hd9 : decode cc pc = .ok (.putfield idx, 3)) (pl : jPL own nm idx 12 7 (.object "java/util/Collection")) (S : LmS K t c hs h m D ea ka ta nx bf af tb n f es ks vs sz mc th lf hd tl) (ha : hc h t a (jO 21 [.int (nI 0), .ref m])) (kk : ∀ h' : JIH, LmS K t c hs h' m D ea ka ta nx bf af tb n f es ks (some a) sz mc th lf hd tl → J M h' (pc + 3) ls st) : J M h pc ls (.ref a :: .ref m :: st) := J.putf X hd9 pl S.o (by show 7 < 12; decide) (nar_rf (some a) _) (fit_rf (some a) _) (kk _ (S.w_vs ha))
theorem J.lm_fN {a j : Nat} {i : Int32} (X : JX M K l0 cc own nL ret nm hh lv h0 QR QX) (hd9 : decode cc pc = .ok (.aastore, 1)) (S : LmS K t c hs h m D ea ka ta nx bf af tb n f es ks vs sz mc th lf hd tl) (ha : tb = some a) (hi : i = nI j) (hj : j < n) (hn : n < 2147483648) (kk : ∀ h' : JIH, LmS K t c hs h' m D ea ka ta nx bf af tb n (va_up f j none) es ks vs sz mc th lf hd tl → J M h' (pc + 1) ls st) : J M h pc ls (.null :: .int i :: .ref a :: st) := J.aastN X hd9 (S.tt ha) rfl hi hj (kk _ (S.w_f ha)) hn
theorem J.lm_fR {a j k : Nat} {i : Int32} (X : JX M K l0 cc own nL ret nm hh lv h0 QR QX) (hd9 : decode cc pc = .ok (.aastore, 1)) (S : LmS K t c hs h m D ea ka ta nx bf af tb n f es ks vs sz mc th lf hd tl) (ha : tb = some a) (hk : k ∈ D) (hi : i = nI j) (hj : j < n) (hn : n < 2147483648) (kk : ∀ h' : JIH, LmS K t c hs h' m D ea ka ta nx bf af tb n (va_up f j (some (ea k))) es ks vs sz mc th lf hd tl → J M h' (pc + 1) ls st) : J M h pc ls (.ref (ea k) :: .int i :: .ref a :: st) := J.aastO X hd9 (S.tt ha) rfl (S.e hk) jcl_13 q3083 hi hj (kk _ (S.w_f ha)) hn
theorem J.lm_nxX {idx k : Nat} {x : Option Nat} {v : Value} (X : JX M K l0 cc own nL ret nm hh lv h0 QR QX) (hd9 : decode cc pc = .ok (.putfield idx, 3)) (pl : jPL own nm idx 13 3 (.object "java/util/HashMap$Node")) (S : LmS K t c hs h m D ea ka ta nx bf af tb n f es ks vs sz mc th lf hd tl) (hk : k ∈ D) (hv : va_rf (x.map ea) = v) (kk : ∀ h' : JIH, LmS K t c hs h' m D ea ka ta (va_up nx k x) bf af tb n f es ks vs sz mc th lf hd tl → (∀ (t' a : Nat) (e : va_E), ea k ≠ a → hc h t' a e → hc h' t' a e) → J M h' (pc + 3) ls st) : J M h pc ls (v :: .ref (ea k) :: st) := by
  subst hv
  refine J.putf X hd9 pl (S.e hk) (by show 3 < 6; decide) (nar_rf _ _) (fit_rf _ _) ?_
  have e : (enO ea ka ta nx bf af k).set 3 (va_rf (x.map ea)) = enO ea ka ta (va_up nx k x) bf af k := by unfold enO; rw [va_up_self]; rfl
  rw [e]
  exact kk _ (S.w_e hk (fun j hj => ⟨va_up_ne _ _ hj, rfl, rfl⟩)) (fun t' a e9 hne g => g.ne _ hne)
theorem J.lm_fX {a j : Nat} {x : Option Nat} {v : Value} {i : Int32} (X : JX M K l0 cc own nL ret nm hh lv h0 QR QX) (hd9 : decode cc pc = .ok (.aastore, 1)) (S : LmS K t c hs h m D ea ka ta nx bf af tb n f es ks vs sz mc th lf hd tl) (ha : tb = some a) (hk : ∀ k, x = some k → k ∈ D) (hv : va_rf (x.map ea) = v) (hi : i = nI j) (hj : j < n) (hn : n < 2147483648) (kk : ∀ h' : JIH, LmS K t c hs h' m D ea ka ta nx bf af tb n (va_up f j (x.map ea)) es ks vs sz mc th lf hd tl → (∀ (t' b : Nat) (e : va_E), a ≠ b → hc h t' b e → hc h' t' b e) → J M h' (pc + 1) ls st) : J M h pc ls (v :: .int i :: .ref a :: st) := by
  subst hv
  cases x with
  | none => exact J.aastN X hd9 (S.tt ha) rfl hi hj (kk _ (S.w_f ha) (fun t' b e9 hne g => g.ne _ hne)) hn
  | some k => exact J.aastO X hd9 (S.tt ha) rfl (S.e (hk k rfl)) jcl_13 q3083 hi hj (kk _ (S.w_f ha) (fun t' b e9 hne g => g.ne _ hne)) hn
theorem J.lm_fO {a j : Nat} {x : Option Nat} {v : Value} {i : Int32} (X : JX M K l0 cc own nL ret nm hh lv h0 QR QX) (hd9 : decode cc pc = .ok (.aastore, 1)) (S : LmS K t c hs h m D ea ka ta nx bf af tb n f es ks vs sz mc th lf hd tl) (ha : tb = some a) (hk : ∀ k, x = some k → k ∈ D) (hv : va_rf (x.map ea) = v) (hi : i = nI j) (hj : j < n) (hn : n < 2147483648) (kk : ∀ h' : JIH, LmS K t c hs h' m D ea ka ta nx bf af tb n (va_up f j (x.map ea)) es ks vs sz mc th lf hd tl → J M h' (pc + 1) ls st) : J M h pc ls (v :: .int i :: .ref a :: st) := by
  subst hv
  cases x with
  | none => exact J.lm_fN X hd9 S ha hi hj hn kk
  | some k => exact J.lm_fR X hd9 S ha (hk k rfl) hi hj hn kk
end JR
