/-! LinkedList -/
def llO (mc : Int32) (ns : List Nat) : List Value := [.int mc, .int (nI ns.length), va_rf ns.head?, va_rf (lst none ns)]
def ndO (it : Nat → Nat) (nx pv : Nat → Option Nat) (a : Nat) : List Value := [.ref (it a), va_rf (nx a), va_rf (pv a)]
/-- a list: its nodes, where their items lie, its count of changes -/
def LL (t : Nat) (h : JIH) (l : Nat) (ns : List Nat) (it : Nat → Nat) (mc : Int32) : Prop := ∃ nx pv : Nat → Option Nat, hc h t l (jO 16 (llO mc ns)) ∧ (∀ a ∈ ns, hc h t a (jO 17 (ndO it nx pv a))) ∧ Dl pv nx none ns ∧ ns.Nodup
theorem LL.fr {t : Nat} {h h' : JIH} {l : Nat} {ns : List Nat} {it : Nat → Nat} {mc : Int32} {T : Nat → Prop} (S : LL t h l ns it mc) (g : Fr T h h') (ht : ¬ T t) : LL t h' l ns it mc := by
  obtain ⟨nx, pv, c1, c2, d1, d2⟩ := S
  exact ⟨nx, pv, c1.fr g ht, fun a ha => (c2 a ha).fr g ht, d1, d2⟩
theorem LL.ob {t : Nat} {h : JIH} {l : Nat} {ns : List Nat} {it : Nat → Nat} {mc : Int32} (S : LL t h l ns it mc) : hc h t l (jO 16 (llO mc ns)) := by
  obtain ⟨nx, pv, c1, -⟩ := S
  exact c1
theorem Dl.idx {bf af : Nat → Option Nat} : ∀ {l : List Nat} {p : Option Nat} {j a : Nat}, Dl bf af p l → l[j]? = some a → af a = l[j + 1]? ∧ bf a = (if j = 0 then p else l[j - 1]?)
  | [], _, _, _, _, h => by cases h
  | k :: r, p, 0, a, h, e => by
    have e : k = a := by simpa using e
    subst e
    refine ⟨?_, h.1⟩
    rw [h.2.1]
    cases r <;> rfl
  | k :: r, p, j + 1, a, h, e => by
    have e : r[j]? = some a := by simpa using e
    have h1 := Dl.idx (l := r) h.2.2 e
    refine ⟨h1.1.trans (by simp), h1.2.trans ?_⟩
    cases j with
    | zero => simp
    | succ j => simp
theorem sar1 : ∀ s : Nat, s < 64 → nI s >>> (nI 1 &&& 31) = nI (s / 2) := by decide +kernel
theorem al_init {K : JK} {l : Launch} {hE : JIH} (F : JF K) {a : Nat} {x1 x2 x3 : Value} (hf : hget hE a = some (jO 16 [.int 0, x1, x2, x3])) : Ct K l yJ5_init wJ5_init 2 [.ref a] hE (jRv (fun h' => hE = h')) jNo := by
  refine st_J5_init (ls := [some (.ref a)]) F rfl (body := fun M X => ?_)
  refine J.aload0 X dJ5_init_0 ?_
  refine J.callI X dJ5_init_1 lk_J5_1 ce_J3_init (ac_init F a) (by decide) rfl (fun h' e _ => ?_)
  subst e
  refine J.fresh hf ?_
  refine J.aload0 X dJ5_init_4 ?_
  refine J.iconst (v := nI 0) X dJ5_init_5 (by decide) ?_
  refine J.putfS X dJ5_init_6 (pl_J5_7_J7 _) (hf) (Nat.le_of_ble_eq_true rfl) (rfl) (rfl) ?_
  refine J.vreturn X dJ5_init_9 (jRv.of ?_)
  exact (hset_self hf).symm
theorem asl_init {K : JK} {l : Launch} {hE : JIH} (F : JF K) {a : Nat} {x1 x2 x3 : Value} (hf : hget hE a = some (jO 16 [.int 0, x1, x2, x3])) : Ct K l yJ6_init wJ6_init 3 [.ref a] hE (jRv (fun h' => hE = h')) jNo := by
  refine st_J6_init (ls := [some (.ref a)]) F rfl (body := fun M X => ?_)
  refine J.aload0 X dJ6_init_0 ?_
  refine J.callI X dJ6_init_1 lk_J6_1 ce_J5_init (al_init F hf) (by decide) rfl (fun h' e _ => ?_)
  subst e
  refine J.vreturn X dJ6_init_4 (jRv.of ?_)
  rfl
theorem ll_init {K : JK} {l : Launch} {hE : JIH} (F : JF K) {t a : Nat} (hf : hc hE t a (jO 16 [.int 0, .int 0, .null, .null])) : Ct K l yJ7_init wJ7_init 4 [.ref a] hE (jRv (fun h' => LL t h' a [] (fun _ => 0) 0 ∧ hE = h')) jNo := by
  refine st_J7_init (ls := [some (.ref a)]) F rfl (body := fun M X => ?_)
  refine J.aload0 X dJ7_init_0 ?_
  refine J.callI X dJ7_init_1 lk_J7_1 ce_J6_init (asl_init F hf.1) (by decide) rfl (fun h' e _ => ?_)
  subst e
  refine J.fresh hf.1 ?_
  refine J.aload0 X dJ7_init_4 ?_
  refine J.iconst (v := nI 0) X dJ7_init_5 (by decide) ?_
  refine J.putfS X dJ7_init_6 (pl_J7_7_J7 _) (hf.1) (Nat.le_of_ble_eq_true rfl) (rfl) (rfl) ?_
  refine J.vreturn X dJ7_init_9 (jRv.of ?_)
  have e : hset hE a (jO 16 [.int 0, .int (nI 0), .null, .null]) = hE := hset_self hf.1
  refine ⟨?_, e.symm⟩
  show LL t (hset hE a (jO 16 [.int 0, .int (nI 0), .null, .null])) a [] (fun _ => 0) 0
  rw [e]
  exact ⟨fun _ => none, fun _ => none, hf, fun a ha => (by cases ha), trivial, List.nodup_nil⟩
theorem nd_initN {K : JK} {l : Launch} {hE : JIH} (F : JF K) {a x z : Nat} {x1 x2 x3 : Value} (hf : hget hE a = some (jO 17 [x1, x2, x3])) : Ct K l yJ39_init wJ39_init 1 [.ref a, .null, .ref x, .null] hE (jRv (fun h' => h' = hset hE a (jO 17 [.ref x, .null, .null]))) jNo := by
  refine st_J39_init (ls := [some (.ref a), some (.null), some (.ref x), some (.null)]) F rfl (body := fun M X => ?_)
  refine J.fresh hf ?_
  refine J.aload0 X dJ39_init_0 ?_
  refine J.objInit X dJ39_init_1 lk_J39_1 (by decide) ?_
  refine J.aload0 X dJ39_init_4 ?_
  refine J.aload2 X dJ39_init_5 ?_
  refine J.putfS X dJ39_init_6 (pl_J39_7_J39 _) (hf) (Nat.le_of_ble_eq_true rfl) (rfl) (rfl) ?_
  refine J.aload0 X dJ39_init_9 ?_
  refine J.aload3 X dJ39_init_10 ?_
  refine J.putfS X dJ39_init_11 (pl_J39_13_J39 _) (hf) (Nat.le_of_ble_eq_true rfl) (rfl) (rfl) ?_
  refine J.aload0 X dJ39_init_14 ?_
  refine J.aload1 X dJ39_init_15 ?_
  refine J.putfS X dJ39_init_16 (pl_J39_17_J39 _) (hf) (Nat.le_of_ble_eq_true rfl) (rfl) (rfl) ?_
  refine J.vreturn X dJ39_init_19 (jRv.of ?_)
  rfl
theorem nd_initS {K : JK} {l : Launch} {hE : JIH} (F : JF K) {a x z : Nat} {x1 x2 x3 : Value} (hf : hget hE a = some (jO 17 [x1, x2, x3])) : Ct K l yJ39_init wJ39_init 1 [.ref a, (.ref z), .ref x, .null] hE (jRv (fun h' => h' = hset hE a (jO 17 [.ref x, .null, (.ref z)]))) jNo := by
  refine st_J39_init (ls := [some (.ref a), some ((.ref z)), some (.ref x), some (.null)]) F rfl (body := fun M X => ?_)
  refine J.fresh hf ?_
  refine J.aload0 X dJ39_init_0 ?_
  refine J.objInit X dJ39_init_1 lk_J39_1 (by decide) ?_
  refine J.aload0 X dJ39_init_4 ?_
  refine J.aload2 X dJ39_init_5 ?_
  refine J.putfS X dJ39_init_6 (pl_J39_7_J39 _) (hf) (Nat.le_of_ble_eq_true rfl) (rfl) (rfl) ?_
  refine J.aload0 X dJ39_init_9 ?_
  refine J.aload3 X dJ39_init_10 ?_
  refine J.putfS X dJ39_init_11 (pl_J39_13_J39 _) (hf) (Nat.le_of_ble_eq_true rfl) (rfl) (rfl) ?_
  refine J.aload0 X dJ39_init_14 ?_
  refine J.aload1 X dJ39_init_15 ?_
  refine J.putfS X dJ39_init_16 (pl_J39_17_J39 _) (hf) (Nat.le_of_ble_eq_true rfl) (rfl) (rfl) ?_
  refine J.vreturn X dJ39_init_19 (jRv.of ?_)
  rfl
theorem nd_init {K : JK} {l : Launch} {hE : JIH} (F : JF K) {a x : Nat} (p : Option Nat) {x1 x2 x3 : Value} (hf : hget hE a = some (jO 17 [x1, x2, x3])) : Ct K l yJ39_init wJ39_init 1 [.ref a, va_rf p, .ref x, .null] hE (jRv (fun h' => h' = hset hE a (jO 17 [.ref x, .null, va_rf p]))) jNo := by
  cases p with
  | none => exact nd_initN (z := 0) F hf
  | some z => exact nd_initS F hf
theorem ll_linkLast {K : JK} {l : Launch} {hE : JIH} {t a x : Nat} {ns : List Nat} {it : Nat → Nat} {mc : Int32} (F : JF K) (T : LL t hE a ns it mc) (hr : hres hE + 11 ≤ jRL) :
    Ct K l yJ7_linkLast wJ7_linkLast 2 [.ref a, .ref x] hE (jRv (fun h' => LL t h' a (ns ++ [hnew hE]) (va_up it (hnew hE) x) (mc + nI 1) ∧ Fr (fun y => y = t) hE h' ∧ hres h' = hres hE + 11)) jNo := by
  obtain ⟨nx, pv, c1, c2, d1, d2⟩ := T
  have hnn : hnew hE ∉ ns := fun z => absurd (c2 _ z).lt (Nat.lt_irrefl _)
  refine st_J7_linkLast (ls := [some (.ref a), some (.ref x), none, none]) F rfl (body := fun M X => ?_)
  refine J.aload0 X dJ7_linkLast_0 ?_
  refine J.getf X dJ7_linkLast_1 fl_J7_27_J7 (c1.1) rfl ?_
  refine J.astore2 X dJ7_linkLast_4 ?_
  refine J.new (ci := 17) (t) X dJ7_linkLast_5 jcl_17 cl_J7_22 rfl (hr) ?_
  refine J.dup X dJ7_linkLast_8 ?_
  refine J.aload2 X dJ7_linkLast_9 ?_
  refine J.aload1 X dJ7_linkLast_10 ?_
  refine J.aconst_null X dJ7_linkLast_11 ?_
  refine J.callI X dJ7_linkLast_12 lk_J7_24 ce_J39_init (nd_init F (x := x) (lst none ns) (hget_push_new _ _ _)) (by decide) rfl (fun h' e _ => ?_)
  subst e
  rw [hset_push_new]
  have f1 := Fr.push (fun y => y = t) hE t (jO 17 [.ref x, .null, va_rf (lst none ns)])
  have e1 := hres_push hE t (jO 17 [.ref x, .null, va_rf (lst none ns)])
  have cn := hc.new hE t (jO 17 [.ref x, .null, va_rf (lst none ns)])
  replace c1 := c1.push t (jO 17 [.ref x, .null, va_rf (lst none ns)])
  replace c2 : ∀ b ∈ ns, hc _ t b (jO 17 (ndO it nx pv b)) := fun b hb => (c2 b hb).push t (jO 17 [.ref x, .null, va_rf (lst none ns)])
  generalize hpush hE t (jO 17 [.ref x, .null, va_rf (lst none ns)]) = h1 at f1 e1 cn c1 c2
  generalize hn9 : hnew hE = n at cn hnn
  have hna : a ≠ n := c1.apE cn (jO_ne (by decide))
  have hbn : ∀ b ∈ ns, b ≠ n := fun b hb e => hnn (e ▸ hb)
  have hba : ∀ b ∈ ns, a ≠ b := fun b hb => c1.apE (c2 b hb) (jO_ne (by decide))
  refine J.astore3 X dJ7_linkLast_15 ?_
  refine J.aload0 X dJ7_linkLast_16 ?_
  refine J.aload3 X dJ7_linkLast_17 ?_
  refine J.fresh c1.1 ?_
  refine J.putfS X dJ7_linkLast_18 (pl_J7_27_J7 _) (c1.1) (Nat.le_of_ble_eq_true rfl) (rfl) (rfl) ?_
  refine J.aload2 X dJ7_linkLast_21 ?_
  show J M (hset h1 a (jO 16 [.int mc, .int (nI ns.length), va_rf ns.head?, .ref n])) _ _ _
  -- the end
  have fin : ∀ (h : JIH) (hd : Option Nat) (nx' : Nat → Option Nat) (y : Option Value), hc h t a (jO 16 [.int mc, .int (nI ns.length), va_rf hd, .ref n]) → hd = (ns ++ [n]).head? → (∀ b ∈ ns ++ [n], hc h t b (jO 17 (ndO (va_up it n x) nx' (va_up pv n (lst none ns)) b))) → Dl (va_up pv n (lst none ns)) nx' none (ns ++ [n]) → Fr (fun y => y = t) hE h → hres h = hres hE + 11 → J M h 38 [some (.ref a), some (.ref x), y, some (.ref n)] [] := by
    intro h hd nx' y c1 hhd c2 dd ff ee
    refine J.fresh c1.1 ?_
    refine J.aload0 X dJ7_linkLast_38 ?_
    refine J.dup X dJ7_linkLast_39 ?_
    refine J.getf X dJ7_linkLast_40 fl_J7_7_J7 ((hget_set_same _ c1.1)) rfl ?_
    refine J.iconst (v := nI 1) X dJ7_linkLast_43 (by decide) ?_
    refine J.iaddN X dJ7_linkLast_44 ?_
    refine J.putfS X dJ7_linkLast_45 (pl_J7_7_J7 _) (c1.1) (Nat.le_of_ble_eq_true rfl) (rfl) (rfl) ?_
    refine J.aload0 X dJ7_linkLast_48 ?_
    refine J.dup X dJ7_linkLast_49 ?_
    refine J.getf X dJ7_linkLast_50 fl_J7_33_J7 ((hget_set_same _ c1.1)) rfl ?_
    refine J.iconst (v := nI 1) X dJ7_linkLast_53 (by decide) ?_
    refine J.iadd X dJ7_linkLast_54 ?_
    refine J.putfS X dJ7_linkLast_55 (pl_J7_33_J7 _) (c1.1) (Nat.le_of_ble_eq_true rfl) (rfl) (rfl) ?_
    refine J.at (pc' := 58) rfl ?_
    refine J.vreturn X dJ7_linkLast_58 (jRv.of ?_)
    rw [hn9]
    refine ⟨⟨nx', va_up pv n (lst none ns), ?_, fun b hb => (c2 b hb).ne _ (c1.apE (c2 b hb) (jO_ne (by decide))), dd, nodup_snoc d2 hnn⟩, ff.tr (Fr.set c1 rfl), ?_⟩
    · have : llO (mc + nI 1) (ns ++ [n]) = [.int (mc + nI 1), .int (nI (ns.length + 1)), va_rf hd, .ref n] := by
        unfold llO
        rw [List.length_append, lst_app, ← hhd]
        rfl
      rw [this]
      exact c1.same _
    · rw [← ee]; refine hres_setS c1 ?_; rfl
  have s1 : ∀ e : va_E, hc (hset h1 a e) t n (jO 17 [.ref x, .null, va_rf (lst none ns)]) := fun e => cn.ne e hna
  have ff : ∀ e : va_E, Fr (fun y => y = t) hE (hset h1 a e) := fun e => f1.tr (Fr.set c1 rfl)
  cases hb : lst none ns with
  | none =>
    have h0 := lst_none hb
    subst h0
    refine J.ifnonnullN (a := 0) (tgt := 33) X dJ7_linkLast_22 (by decide) ?_
    refine J.aload0 X dJ7_linkLast_25 ?_
    refine J.aload3 X dJ7_linkLast_26 ?_
    refine J.fresh (c1.same (jO 16 [.int mc, .int (nI ([] : List Nat).length), va_rf ([] : List Nat).head?, .ref n])).1 ?_
    refine J.putfS X dJ7_linkLast_27 (pl_J7_18_J7 _) ((c1.same (jO 16 [.int mc, .int (nI ([] : List Nat).length), va_rf ([] : List Nat).head?, .ref n])).1) (Nat.le_of_ble_eq_true rfl) (rfl) (rfl) ?_
    refine J.goto (tgt := 38) X dJ7_linkLast_30 (by decide) ?_
    have c3 := c1.same (jO 16 [.int mc, .int (nI ([] : List Nat).length), va_rf ([] : List Nat).head?, .ref n])
    refine fin _ (some n) (va_up nx n none) _ (c3.same _) rfl (fun b hb => ?_) ?_ ((ff _).tr (Fr.set c3 rfl)) ?_
    · rw [show b = n from List.mem_singleton.mp hb]
      have : ndO (va_up it n x) (va_up nx n none) (va_up pv n (lst none [])) n = [.ref x, .null, va_rf (lst none [])] := by unfold ndO; simp only [va_up_self]; rfl
      rw [this]
      exact (s1 _).ne _ hna
    · exact ⟨va_up_self _ _ _, va_up_self _ _ _, trivial⟩
    · refine (hres_setS c3 ?_).trans ((hres_setS c1 ?_).trans e1) <;> rfl
  | some z =>
    have hz := lst_in hb
    refine J.ifnonnullR (tgt := 33) X dJ7_linkLast_22 (by decide) ?_
    refine J.aload2 X dJ7_linkLast_33 ?_
    refine J.aload3 X dJ7_linkLast_34 ?_
    have cz := (c2 z hz).ne (jO 16 [.int mc, .int (nI ns.length), va_rf ns.head?, .ref n]) (hba z hz)
    refine J.putf X dJ7_linkLast_35 (pl_J7_36_J39 _) cz.1 (by show 1 < 3; decide) rfl rfl ?_
    have c3 := c1.same (jO 16 [.int mc, .int (nI ns.length), va_rf ns.head?, .ref n])
    have hzn : z ≠ n := hbn z hz
    refine fin _ ns.head? (va_up (va_up nx n none) z (some n)) _ (c3.ne _ (hba z hz).symm) ?_ (fun b hb' => ?_) ?_ ((ff _).tr (Fr.set cz rfl)) ?_
    · cases ns with
      | nil => cases hz
      | cons y r => rfl
    · rcases List.mem_append.mp hb' with hb' | hb'
      · have hbn' := hbn b hb'
        by_cases e : b = z
        · subst e
          have : ndO (va_up it n x) (va_up (va_up nx n none) b (some n)) (va_up pv n (lst none ns)) b = (ndO it nx pv b).set 1 (.ref n) := by
            unfold ndO
            rw [va_up_ne _ _ hbn', va_up_self, va_up_ne _ _ hbn']
            rfl
          rw [this]
          exact cz.same _
        · have : ndO (va_up it n x) (va_up (va_up nx n none) z (some n)) (va_up pv n (lst none ns)) b = ndO it nx pv b := by
            unfold ndO
            rw [va_up_ne _ _ hbn', va_up_ne _ _ e, va_up_ne _ _ hbn', va_up_ne _ _ hbn']
          rw [this]
          exact ((c2 b hb').ne _ (hba b hb')).ne _ (fun q => e q.symm)
      · rw [List.mem_singleton.mp hb']
        have : ndO (va_up it n x) (va_up (va_up nx n none) z (some n)) (va_up pv n (lst none ns)) n = [.ref x, .null, va_rf (lst none ns)] := by
          unfold ndO
          rw [va_up_self, va_up_ne _ _ hzn.symm, va_up_self, va_up_self]
          rfl
        rw [this]
        exact (s1 _).ne _ hzn
    · refine Dl.add d1 d2 hnn (va_up_self _ _ _) ?_ (fun y hy => va_up_ne _ _ (hbn y hy)) (fun y hy hne => ?_) (fun y hy => ?_)
      · rw [va_up_ne _ _ hzn.symm, va_up_self]
      · rw [va_up_ne _ _ (fun e => hne (by rw [hb, e])), va_up_ne _ _ (hbn y hy)]
      · rw [hb] at hy
        cases hy
        exact va_up_self _ _ _
    · refine (hres_setS cz ?_).trans ((hres_setS c1 ?_).trans e1) <;> rfl
theorem ll_add {K : JK} {l : Launch} {hE : JIH} {t a x : Nat} {ns : List Nat} {it : Nat → Nat} {mc : Int32} (F : JF K) (T : LL t hE a ns it mc) (hr : hres hE + 11 ≤ jRL) :
    Ct K l yJ7_add wJ7_add 3 [.ref a, .ref x] hE (jRi (fun _ h' => LL t h' a (ns ++ [hnew hE]) (va_up it (hnew hE) x) (mc + nI 1) ∧ Fr (fun y => y = t) hE h' ∧ hres h' = hres hE + 11)) jNo := by
  refine st_J7_add (ls := [some (.ref a), some (.ref x)]) F rfl (body := fun M X => ?_)
  refine J.aload0 X dJ7_add_0 ?_
  refine J.aload1 X dJ7_add_1 ?_
  refine J.callVv X dJ7_add_2 lk_J7_57_J7 ce_J7_linkLast (ll_linkLast F T hr) (by decide) rfl (T.ob.1) rfl (fun h' e _ => ?_)
  refine J.iconst (v := nI 1) X dJ7_add_5 (by decide) ?_
  refine J.zreturn X dJ7_add_6 (rfl) (jRi.of ?_)
  exact e
theorem ll_size {K : JK} {l : Launch} {hE : JIH} {t a : Nat} {ns : List Nat} {it : Nat → Nat} {mc : Int32} (F : JF K) (T : LL t hE a ns it mc) :
    Ct K l yJ7_size wJ7_size 0 [.ref a] hE (jRi (fun r h' => r = nI ns.length ∧ hE = h')) jNo := by
  refine st_J7_size (ls := [some (.ref a)]) F rfl (body := fun M X => ?_)
  refine J.aload0 X dJ7_size_0 ?_
  refine J.getf X dJ7_size_1 fl_J7_7_J7 (T.ob.1) rfl ?_
  refine J.zreturn X dJ7_size_4 (rfl) (jRi.of ?_)
  exact ⟨rfl, rfl⟩
theorem ll_node {K : JK} {l : Launch} {hE : JIH} {t a i b : Nat} {ns : List Nat} {it : Nat → Nat} {mc : Int32} (F : JF K) (T : LL t hE a ns it mc) (hi : ns[i]? = some b) (hl : ns.length < 64) :
    Ct K l yJ7_node wJ7_node 0 [.ref a, .int (nI i)] hE (jRa (fun r h' => r = some b ∧ hE = h')) jNo := by
  obtain ⟨nx, pv, c1, c2, d1, d2⟩ := T
  have hin := (List.getElem?_eq_some_iff.mp hi).1
  refine st_J7_node (ls := [some (.ref a), some (.int (nI i)), none, none]) F rfl (body := fun M X => ?_)
  have lp1 : ∀ (d j : Nat) (y : Nat), j + d = i → ns[j]? = some y → J M hE 17 [some (.ref a), some (.int (nI i)), some (.ref y), some (.int (nI j))] [] := by
    intro d
    induction d with
    | zero =>
      intro j y hj hy
      obtain rfl : j = i := by omega
      refine J.iload3 X dJ7_node_17 ?_
      refine J.iload1 X dJ7_node_18 ?_
      refine J.icmp_geN (tgt := 33) X dJ7_node_19 (by decide) (by omega) (by omega) (fun _ => ?_) (fun q9 => absurd q9 (by omega))
      refine J.aload2 X dJ7_node_33 ?_
      refine J.areturnO X dJ7_node_34 (jRa.ofR ?_)
      exact ⟨hy.symm.trans hi, rfl⟩
    | succ d ih =>
      intro j y hj hy
      have hym : y ∈ ns := List.mem_of_getElem? hy
      have hnx := (Dl.idx d1 hy).1
      have hlt : j + 1 < ns.length := by omega
      refine J.iload3 X dJ7_node_17 ?_
      refine J.iload1 X dJ7_node_18 ?_
      refine J.icmp_geN (tgt := 33) X dJ7_node_19 (by decide) (by omega) (by omega) (fun q9 => absurd q9 (by omega)) (fun _ => ?_)
      refine J.aload2 X dJ7_node_22 ?_
      refine J.getf X dJ7_node_23 fl_J7_36_J39 ((c2 y hym).1) rfl ?_
      rw [hnx, List.getElem?_eq_getElem hlt]
      refine J.astore2 X dJ7_node_26 ?_
      refine J.iinc3N (d := 1) X dJ7_node_27 (by decide) ?_
      refine J.goto (tgt := 17) X dJ7_node_30 (by decide) ?_
      exact ih (j + 1) _ (by omega) (List.getElem?_eq_getElem hlt)
  have lp2 : ∀ (d j : Nat) (y : Nat), j = i + d → ns[j]? = some y → J M hE 47 [some (.ref a), some (.int (nI i)), some (.ref y), some (.int (nI j))] [] := by
    intro d
    induction d with
    | zero =>
      intro j y hj hy
      obtain rfl : j = i := by omega
      refine J.iload3 X dJ7_node_47 ?_
      refine J.iload1 X dJ7_node_48 ?_
      refine J.icmp_leN (tgt := 63) X dJ7_node_49 (by decide) (by omega) (by omega) (fun _ => ?_) (fun q9 => absurd q9 (by omega))
      refine J.aload2 X dJ7_node_63 ?_
      refine J.areturnO X dJ7_node_64 (jRa.ofR ?_)
      exact ⟨hy.symm.trans hi, rfl⟩
    | succ d ih =>
      intro j y hj hy
      have hym : y ∈ ns := List.mem_of_getElem? hy
      have hjl := (List.getElem?_eq_some_iff.mp hy).1
      have hpv := (Dl.idx d1 hy).2
      rw [if_neg (by omega)] at hpv
      have hlt : j - 1 < ns.length := by omega
      refine J.iload3 X dJ7_node_47 ?_
      refine J.iload1 X dJ7_node_48 ?_
      refine J.icmp_leN (tgt := 63) X dJ7_node_49 (by decide) (by omega) (by omega) (fun q9 => absurd q9 (by omega)) (fun _ => ?_)
      refine J.aload2 X dJ7_node_52 ?_
      refine J.getf X dJ7_node_53 fl_J7_30_J39 ((c2 y hym).1) rfl ?_
      rw [hpv, List.getElem?_eq_getElem hlt]
      refine J.astore2 X dJ7_node_56 ?_
      refine J.iinc3 (d := -1) X dJ7_node_57 (by decide) ?_
      obtain ⟨j', rfl⟩ : ∃ j', j = j' + 1 := ⟨j - 1, by omega⟩
      rw [pk_m1]
      refine J.goto (tgt := 47) X dJ7_node_60 (by decide) ?_
      exact ih j' _ (by omega) (List.getElem?_eq_getElem hlt)
  refine J.iload1 X dJ7_node_0 ?_
  refine J.aload0 X dJ7_node_1 ?_
  refine J.getf X dJ7_node_2 fl_J7_7_J7 (c1.1) rfl ?_
  refine J.iconst (v := nI 1) X dJ7_node_5 (by decide) ?_
  refine J.ishr X dJ7_node_6 ?_
  refine J.topi (y := nI (ns.length / 2)) (sar1 _ hl) ?_
  refine J.icmp_geN (tgt := 35) X dJ7_node_7 (by decide) (by omega) (by omega) (fun c3 => ?_) (fun c3 => ?_)
  · skip
    refine J.aload0 X dJ7_node_35 ?_
    refine J.getf X dJ7_node_36 fl_J7_27_J7 (c1.1) rfl ?_
    have h1 : lst none ns = ns[ns.length - 1]? := by
      have : ∀ (l : List Nat) (p : Option Nat), l ≠ [] → lst p l = l[l.length - 1]? := by
        intro l
        induction l with
        | nil => intro p h; exact absurd rfl h
        | cons y r ih =>
          intro p _
          cases r with
          | nil => rfl
          | cons z r => rw [show lst p (y :: z :: r) = lst (some y) (z :: r) from rfl, ih _ (by simp)]; simp
      exact this ns none (fun z => by rw [z] at hin; cases hin)
    rw [h1, List.getElem?_eq_getElem (show ns.length - 1 < ns.length by omega)]
    refine J.astore2 X dJ7_node_39 ?_
    refine J.aload0 X dJ7_node_40 ?_
    refine J.getf X dJ7_node_41 fl_J7_7_J7 (c1.1) rfl ?_
    refine J.iconst (v := nI 1) X dJ7_node_44 (by decide) ?_
    refine J.isubN X dJ7_node_45 (by omega) ?_
    refine J.istore3 X dJ7_node_46 ?_
    exact lp2 (ns.length - 1 - i) _ _ (by omega) (List.getElem?_eq_getElem (by omega))
  · skip
    refine J.aload0 X dJ7_node_10 ?_
    refine J.getf X dJ7_node_11 fl_J7_18_J7 (c1.1) rfl ?_
    have h1 : ns.head? = ns[0]? := by cases ns <;> rfl
    rw [h1, List.getElem?_eq_getElem (show 0 < ns.length by omega)]
    refine J.astore2 X dJ7_node_14 ?_
    refine J.iconst (v := nI 0) X dJ7_node_15 (by decide) ?_
    refine J.istore3 X dJ7_node_16 ?_
    exact lp1 i 0 _ (by omega) (List.getElem?_eq_getElem (by omega))
theorem ll_isEl {K : JK} {l : Launch} {hE : JIH} {t a i : Nat} {ns : List Nat} {it : Nat → Nat} {mc : Int32} (F : JF K) (T : LL t hE a ns it mc) (hi : i < ns.length) (hl : ns.length < 64) :
    Ct K l yJ7_isElementIndex wJ7_isElementIndex 0 [.ref a, .int (nI i)] hE (jRi (fun r h' => r = nI 1 ∧ hE = h')) jNo := by
  refine st_J7_isElementIndex (ls := [some (.ref a), some (.int (nI i))]) F rfl (body := fun M X => ?_)
  refine J.iload1 X dJ7_isElementIndex_0 ?_
  refine J.if_ltN (tgt := 16) X dJ7_isElementIndex_1 (by decide) (by omega) ?_
  refine J.iload1 X dJ7_isElementIndex_4 ?_
  refine J.aload0 X dJ7_isElementIndex_5 ?_
  refine J.getf X dJ7_isElementIndex_6 fl_J7_7_J7 (T.ob.1) rfl ?_
  refine J.icmp_geN (tgt := 16) X dJ7_isElementIndex_9 (by decide) (by omega) (by omega) (fun q9 => absurd q9 (by omega)) (fun _ => ?_)
  refine J.iconst (v := nI 1) X dJ7_isElementIndex_12 (by decide) ?_
  refine J.goto (tgt := 17) X dJ7_isElementIndex_13 (by decide) ?_
  refine J.zreturn X dJ7_isElementIndex_17 (rfl) (jRi.of ?_)
  exact ⟨rfl, rfl⟩
theorem ll_isPos {K : JK} {l : Launch} {hE : JIH} {t a i : Nat} {ns : List Nat} {it : Nat → Nat} {mc : Int32} (F : JF K) (T : LL t hE a ns it mc) (hi : i ≤ ns.length) (hl : ns.length < 64) :
    Ct K l yJ7_isPositionIndex wJ7_isPositionIndex 0 [.ref a, .int (nI i)] hE (jRi (fun r h' => r = nI 1 ∧ hE = h')) jNo := by
  refine st_J7_isPositionIndex (ls := [some (.ref a), some (.int (nI i))]) F rfl (body := fun M X => ?_)
  refine J.iload1 X dJ7_isPositionIndex_0 ?_
  refine J.if_ltN (tgt := 16) X dJ7_isPositionIndex_1 (by decide) (by omega) ?_
  refine J.iload1 X dJ7_isPositionIndex_4 ?_
  refine J.aload0 X dJ7_isPositionIndex_5 ?_
  refine J.getf X dJ7_isPositionIndex_6 fl_J7_7_J7 (T.ob.1) rfl ?_
  refine J.icmp_gtN (tgt := 16) X dJ7_isPositionIndex_9 (by decide) (by omega) (by omega) (fun q9 => absurd q9 (by omega)) (fun _ => ?_)
  refine J.iconst (v := nI 1) X dJ7_isPositionIndex_12 (by decide) ?_
  refine J.goto (tgt := 17) X dJ7_isPositionIndex_13 (by decide) ?_
  refine J.zreturn X dJ7_isPositionIndex_17 (rfl) (jRi.of ?_)
  exact ⟨rfl, rfl⟩
theorem ll_ckEl {K : JK} {l : Launch} {hE : JIH} {t a i : Nat} {ns : List Nat} {it : Nat → Nat} {mc : Int32} (F : JF K) (T : LL t hE a ns it mc) (hi : i < ns.length) (hl : ns.length < 64) :
    Ct K l yJ7_checkElementIndex wJ7_checkElementIndex 1 [.ref a, .int (nI i)] hE (jRv (fun h' => hE = h')) jNo := by
  refine st_J7_checkElementIndex (ls := [some (.ref a), some (.int (nI i))]) F rfl (body := fun M X => ?_)
  refine J.aload0 X dJ7_checkElementIndex_0 ?_
  refine J.iload1 X dJ7_checkElementIndex_1 ?_
  refine J.callVi X dJ7_checkElementIndex_2 lk_J7_115_J7 ce_J7_isElementIndex (ll_isEl F T hi hl) (by decide) rfl (T.ob.1) rfl (fun r h' e _ => ?_)
  obtain ⟨rfl, rfl⟩ := e
  refine J.if_neN (tgt := 21) X dJ7_checkElementIndex_5 (by decide) (by omega) (fun _ => ?_) (fun q9 => absurd q9 (by omega))
  refine J.vreturn X dJ7_checkElementIndex_21 (jRv.of ?_)
  rfl
theorem ll_ckPos {K : JK} {l : Launch} {hE : JIH} {t a i : Nat} {ns : List Nat} {it : Nat → Nat} {mc : Int32} (F : JF K) (T : LL t hE a ns it mc) (hi : i ≤ ns.length) (hl : ns.length < 64) :
    Ct K l yJ7_checkPositionIndex wJ7_checkPositionIndex 1 [.ref a, .int (nI i)] hE (jRv (fun h' => hE = h')) jNo := by
  refine st_J7_checkPositionIndex (ls := [some (.ref a), some (.int (nI i))]) F rfl (body := fun M X => ?_)
  refine J.aload0 X dJ7_checkPositionIndex_0 ?_
  refine J.iload1 X dJ7_checkPositionIndex_1 ?_
  refine J.callVi X dJ7_checkPositionIndex_2 lk_J7_128_J7 ce_J7_isPositionIndex (ll_isPos F T hi hl) (by decide) rfl (T.ob.1) rfl (fun r h' e _ => ?_)
  obtain ⟨rfl, rfl⟩ := e
  refine J.if_neN (tgt := 21) X dJ7_checkPositionIndex_5 (by decide) (by omega) (fun _ => ?_) (fun q9 => absurd q9 (by omega))
  refine J.vreturn X dJ7_checkPositionIndex_21 (jRv.of ?_)
  rfl
theorem ll_get {K : JK} {l : Launch} {hE : JIH} {t a i b : Nat} {ns : List Nat} {it : Nat → Nat} {mc : Int32} (F : JF K) (T : LL t hE a ns it mc) (hi : ns[i]? = some b) (hl : ns.length < 64) :
    Ct K l yJ7_get wJ7_get 2 [.ref a, .int (nI i)] hE (jRa (fun r h' => r = some (it b) ∧ hE = h')) jNo := by
  have hin := (List.getElem?_eq_some_iff.mp hi).1
  refine st_J7_get (ls := [some (.ref a), some (.int (nI i))]) F rfl (body := fun M X => ?_)
  refine J.aload0 X dJ7_get_0 ?_
  refine J.iload1 X dJ7_get_1 ?_
  refine J.callVv X dJ7_get_2 lk_J7_90_J7 ce_J7_checkElementIndex (ll_ckEl F T hin hl) (by decide) rfl (T.ob.1) rfl (fun h' e _ => ?_)
  subst e
  refine J.aload0 X dJ7_get_5 ?_
  refine J.iload1 X dJ7_get_6 ?_
  refine J.callVa X dJ7_get_7 lk_J7_86_J7 ce_J7_node (ll_node F T hi hl) (by decide) rfl (T.ob.1) rfl (fun r h' e _ => ?_)
  obtain ⟨rfl, rfl⟩ := e
  obtain ⟨nx, pv, c1, c2, d1, d2⟩ := T
  refine J.getf X dJ7_get_10 fl_J7_39_J39 ((c2 b (List.mem_of_getElem? hi)).1) rfl ?_
  refine J.areturnO X dJ7_get_13 (jRa.ofR ?_)
  exact ⟨rfl, rfl⟩
