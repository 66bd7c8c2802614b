-- METHODS THAT MAKE CELLS
/-- the cells are the same and as many -/
theorem gC_of {S S2 : HS} (h : S2.2.2.2 = S.2.2.2) : gC S2 = gC S := congrArg (fun q => q.2.1) h
theorem gN_of {S S2 : HS} (h : S2.2.2.2 = S.2.2.2) : gN S2 = gN S := congrArg (fun q => q.2.2) h
theorem gD_of {S S2 : HS} (h : S2.2.2.2 = S.2.2.2) (i : Nat) : gD S2 i = gD S i := congrArg (fun q => q.1 i) h
/-- from S to S1 cells may have come -/
def MN (S S1 : HS) : Prop := gC S ≤ gC S1 ∧ gN S ≤ gN S1 ∧ ∀ i, gD S i = true → gD S1 i = true
theorem MN.rf {S : HS} : MN S S := ⟨Nat.le_refl _, Nat.le_refl _, fun _ h => h⟩
theorem MN.tr {S S1 S2 : HS} (h : MN S S1) (k : MN S1 S2) : MN S S2 := ⟨Nat.le_trans h.1 k.1, Nat.le_trans h.2.1 k.2.1, fun i q => k.2.2 i (h.2.2 i q)⟩
theorem MN.kR {S S1 S2 : HS} (h : MN S S1) (k : S2.2.2.2 = S1.2.2.2) : MN S S2 := ⟨by rw [gC_of k]; exact h.1, by rw [gN_of k]; exact h.2.1, fun i q => by rw [gD_of k]; exact h.2.2 i q⟩
theorem MN.kL {S S1 S2 : HS} (h : MN S S1) (k : S2.2.2.2 = S.2.2.2) : MN S2 S1 := ⟨by rw [gC_of k]; exact h.1, by rw [gN_of k]; exact h.2.1, fun i q => h.2.2 i (by rw [← gD_of k]; exact q)⟩
theorem MN.le {S SF : HS} (h : MN S SF) (S0 : HS) : gC S - gC S0 ≤ gC SF - gC S0 ∧ gN S - gN S0 ≤ gN SF - gN S0 := ⟨Nat.sub_le_sub_right h.1 _, Nat.sub_le_sub_right h.2.1 _⟩
theorem MN.nw {S S1 : HS} {i n : Nat} (e : S1 = sN S i n) : MN S S1 := by
  subst e
  refine ⟨Nat.le_succ _, Nat.le_add_right _ _, fun j h => ?_⟩
  show (if j = i then true else gD S j) = true
  split
  · rfl
  · exact h
/-- S0 and ad0 were at the method's start -/
def AC (S0 : HS) (ad0 : Nat → Nat) (S : HS) (ad : Nat → Nat) : Prop := (∀ i, gD S0 i = true → gD S i = true ∧ ad i = ad0 i) ∧ gC S0 ≤ gC S ∧ gN S0 ≤ gN S
theorem AC.rf {S : HS} {ad : Nat → Nat} : AC S ad S ad := ⟨fun _ h => ⟨h, rfl⟩, Nat.le_refl _, Nat.le_refl _⟩
theorem AC.k {S0 S S2 : HS} {ad0 ad : Nat → Nat} (h : AC S0 ad0 S ad) (k : S2.2.2.2 = S.2.2.2) : AC S0 ad0 S2 ad := ⟨fun i q => ⟨by rw [gD_of k]; exact (h.1 i q).1, (h.1 i q).2⟩, by rw [gC_of k]; exact h.2.1, by rw [gN_of k]; exact h.2.2⟩
theorem AC.mn {S0 S S1 : HS} {ad0 ad ad1 : Nat → Nat} (h : AC S0 ad0 S ad) (k : MN S S1) (ha : ∀ i, gD S i = true → ad1 i = ad i) : AC S0 ad0 S1 ad1 :=
  ⟨fun i q => ⟨k.2.2 i (h.1 i q).1, (ha i (h.1 i q).1).trans (h.1 i q).2⟩, Nat.le_trans h.2.1 k.1, Nat.le_trans h.2.2 k.2.1⟩
def QA (D : va_G) (cA : Nat → ClassId) (z : Nat) (ac : Nat → Nat) (E : EV) (ad0 : Nat → Nat) (S0 : HS) (vf : (Nat → Nat) → Option Value) (S1 : HS) : Array Value → State → Outcome → State → Prop := fun _ st o t =>
  ∃ ad1 : Nat → Nat, (∀ i, gD S0 i = true → ad1 i = ad0 i) ∧ o = .returned (vf ad1) ∧ HW D cA z ac E ad1 S1 t.heap ∧ st.heap.size ≤ t.heap.size ∧ ∀ q : Nat, q < st.heap.size → ¬ zA z q → t.heap[q]? = st.heap[q]?
abbrev GA (p : Program) (l : Launch) (e : Env) (d : Nat) (s : State) (m : MethodId) (args : Array Value) (below : List Frame) (meth : Method) (c : Code) (D : va_G) (cA : Nat → ClassId) (z : Nat) (ac : Nat → Nat) (E : EV) (ad0 : Nat → Nat) (S0 : HS) (vf : (Nat → Nat) → Option Value) (SF S : HS) (H : Heap) (locs : List Loc) (g : JFrame) : Prop :=
  W p l e (rmD d (gC SF - gC S0) (gN SF - gN S0)) s m args below meth c H locs (gC S - gC S0) (gN S - gN S0) (MQ below (QA D cA z ac E ad0 S0 vf SF) args s (gC SF - gC S0) (gN SF - gN S0) (zA z)) g
theorem kd_dyn {i : Nat} (h : kd i = 3 ∨ kd i = 4) : 1000 ≤ i := by
  rcases Nat.lt_or_ge i 1000 with q | q
  · exfalso
    unfold kd at h
    split at h
    · split at h <;> omega
    · split at h
      · split at h <;> omega
      · split at h
        · split at h
          · split at h <;> omega
          all_goals omega
        · first | (split at h <;> omega) | omega
  · exact q
theorem fin_dyn {i : Nat} (h : kd i = 3 ∨ kd i = 4) (k : Nat) : finR i k = none := by
  have hi := kd_dyn h
  unfold finR
  rw [if_neg (by omega), if_neg (by omega), if_neg (by omega), if_neg (by omega), if_neg (by omega)]
theorem vu_ne {f : Nat → Nat} {k j : Nat} {v : Nat} (h : j ≠ k) : va_up f k v j = f j := if_neg h
section HA
variable {p : Program} {l : Launch} {e : Env} {R : Jvm.Room} {s : State} {m : MethodId} {args : Array Value} {below : List Frame} {meth : Method} {c : Code} {H : Heap} {locs : List Loc} {cells slots : Nat} {Q : State → Prop}
variable {cc : ByteArray} {pc : Nat} {ls : Array Slot} {rest : List Value} {own : String} {nL : Nat} {rt : Option FieldType} {D : va_G} {cA : Nat → ClassId} {z : Nat} {ac : Nat → Nat} {E : EV} {ad ad0 : Nat → Nat} {S S0 S1 SF : HS}
theorem ac_w {S2 : HS} {g : JFrame} (k : S2.2.2.2 = S.2.2.2) (h : W p l e R s m args below meth c H locs (gC S2 - gC S0) (gN S2 - gN S0) Q g) : W p l e R s m args below meth c H locs (gC S - gC S0) (gN S - gN S0) Q g := by
  rw [← gC_of k, ← gN_of k]
  exact h
theorem HW.lt (h : HW D cA z ac E ad S H) {i : Nat} (hi : gD S i = true) : ad i < H.size := by
  rcases Nat.lt_or_ge (kd i) 6 with q | q
  · obtain ⟨cell, h1, -⟩ := (h.1 i hi).1 q
    exact (Array.getElem?_eq_some_iff.mp h1).1
  · exact (Array.getElem?_eq_some_iff.mp ((h.1 i hi).2 q)).1
theorem HW.zl (h : HW D cA z ac E ad S H) {i : Nat} (hi : gD S i = true) : z ≤ H.size := Nat.le_trans (h.2.2.1 i hi) (Nat.le_of_lt (h.lt hi))
theorem vOf_new (h : HW D cA z ac E ad S H) {i n j q : Nat} (a : Nat) (hj : gD S j = true) (hni : gD S i = false) (hc : ¬ (300 ≤ i ∧ i < 600)) (t : Nat) : vOf (va_up ad i a) (sN S i n) t j q = vOf ad S t j q := by
  have hji : j ≠ i := fun e => by rw [e, hni] at hj; cases hj
  have e1 : gF (sN S i n) j q = gF S j q := if_neg hji
  have e2 : gL (sN S i n) j q = gL S j q := if_neg hji
  have e3 : gX (sN S i n) j q = gX S j q := if_neg hji
  unfold vOf
  rw [e1, e2, e3]
  match t with
  | 0 => rfl
  | 1 => rfl
  | t + 2 =>
    show va_re (va_up ad i a) (gX S j q) = va_re ad (gX S j q)
    cases hx : gX S j q with
    | none => rfl
    | some x =>
      have : x ≠ i := by
        intro e
        rcases h.okx hj hx with g | g
        · rw [e, hni] at g; cases g
        · exact hc (e ▸ g)
      show Value.ref (va_up ad i a x) = Value.ref (ad x)
      rw [vu_ne this]
/-- a new cell, at the heap's end -/
theorem HW.nw {H1 : Heap} {i n : Nat} (h : HW D cA z ac E ad S H) (hni : gD S i = false) (hc : ¬ (300 ≤ i ∧ i < 600)) (hE : ∀ k, E.2 i k = none) (hz : z ≤ H.size) (hcell : cellAt D cA (va_up ad i H.size) (sN S i n) i H1) (o1 : ∀ q, q < H.size → H1[q]? = H[q]?) : HW D cA z ac E (va_up ad i H.size) (sN S i n) H1 := by
  have hD : ∀ j, gD (sN S i n) j = true → j = i ∨ (j ≠ i ∧ gD S j = true) := by
    intro j hj
    by_cases e : j = i
    · exact Or.inl e
    · have : gD (sN S i n) j = gD S j := if_neg e
      exact Or.inr ⟨e, by rw [← this]; exact hj⟩
  have hD2 : ∀ j, gD S j = true → gD (sN S i n) j = true := fun j hj => (MN.nw (S1 := sN S i n) rfl).2.2 j hj
  have hok : ∀ j, okid S j → okid (sN S i n) j := fun j hj => hj.imp (hD2 j) id
  refine ⟨fun j hj => ?_, fun a b ha hb hab => ?_, fun j hj => ?_, fun j k x hj hx => ?_, fun j hj => hD2 j (h.fx j hj), fun j k x hx => ?_, fun j g1 g2 => ?_⟩
  · rcases hD j hj with rfl | ⟨hn, hj'⟩
    · exact hcell
    · exact (h.1 j hj').kept (vu_ne hn) (o1 _ (h.lt hj')) (fun k => vOf_new h _ hj' hni hc _)
  · rcases hD a ha with rfl | ⟨hn, ha'⟩ <;> rcases hD b hb with rfl | ⟨hm, hb'⟩
    · rfl
    · rw [va_up_self, vu_ne hm] at hab
      exact absurd (h.lt hb') (by omega)
    · rw [va_up_self, vu_ne hn] at hab
      exact absurd (h.lt ha') (by omega)
    · rw [vu_ne hn, vu_ne hm] at hab
      exact h.2.1 a b ha' hb' hab
  · rcases hD j hj with rfl | ⟨hn, hj'⟩
    · rw [va_up_self]; exact hz
    · rw [vu_ne hn]; exact h.2.2.1 j hj'
  · rcases hD j hj with rfl | ⟨hn, hj'⟩
    · have : gX (sN S j n) j k = none := if_pos rfl
      rw [this] at hx; cases hx
    · have : gX (sN S i n) j k = gX S j k := if_neg hn
      rw [this] at hx
      exact hok x (h.okx hj' hx)
  · have hn : j ≠ i := fun e => by rw [e, hE] at hx; cases hx
    have : gX (sN S i n) j k = gX S j k := if_neg hn
    rw [this]
    exact h.fn hx
  · have hn : j ≠ i := fun e => hc (e ▸ ⟨g1, g2⟩)
    have : gD (sN S i n) j = gD S j := if_neg hn
    rw [vu_ne hn, this]
    exact h.2.2.2.2.2.2 j g1 g2
theorem tyv_def (ad : Nat → Nat) (S : HS) (i n k : Nat) (ty : FieldType) (hty : ty ≠ .float ∧ ty ≠ .double) : defaultValue ty = vOf ad (sN S i n) (tyv ty) i k := by
  have e1 : gF (sN S i n) i k = 0 := if_pos rfl
  have e2 : gL (sN S i n) i k = 0 := if_pos rfl
  have e3 : gX (sN S i n) i k = none := if_pos rfl
  cases ty <;> first | exact absurd rfl hty.1 | exact absurd rfl hty.2 | (simp only [tyv, vOf, e1, e2, e3]; rfl)
theorem tyc_ok : ∀ ci, ci < 6 → ∀ k, k < 40 → tyc ci k ≠ .float ∧ tyc ci k ≠ .double := by decide +kernel
theorem nf_40 : ∀ ci, ci < 6 → nf ci ≤ 40 := by decide
/-- new: the cell i comes -/
theorem hn_o {q : vw_C} {index ci i : Nat} (C : CB p s m args c meth cc own nL rt D cA z ac) (hW : HW D cA z ac E ad S H) (hS : va_S (zA z) s.heap H locs) (hT : AC S0 ad0 S ad) (hz : z ≤ H.size) (hc : kd i = ci) (hq : cls[ci]? = some q) (hni : gD S i = false) (hno : ¬ (300 ≤ i ∧ i < 600)) (hE : ∀ k, E.2 i k = none) (e1 : S1 = sN S i q.2.2)
    (hcl : Cond.classLink own index q.1 ∈ lw_g) (hins : Cond.instantiable q.1 q.2.2 ∈ lw_g) (hini : Cond.initialized q.1 ∈ lw_g) (hcs : gC S1 - gC S0 ≤ R.cells ∧ gN S1 - gN S0 ≤ R.slots) (hdg : decode cc pc = .ok (.new index, 3))
    (kk : ∀ (ad1 : Nat → Nat) (H : Heap), (∀ j, gD S j = true → ad1 j = ad j) → AC S0 ad0 S1 ad1 → HW D cA z ac E ad1 S1 H → va_S (zA z) s.heap H locs → W p l e R s m args below meth c H locs (gC S1 - gC S0) (gN S1 - gN S0) Q (F0 m (pc + 3) ls (.ref (ad1 i) :: rest))) : W p l e R s m args below meth c H locs (gC S - gC S0) (gN S - gN S0) Q (F0 m pc ls rest) := by
  subst e1
  obtain ⟨⟨hx, hb, hml, hown, hts⟩, hK, hr, hlo⟩ := C
  obtain ⟨hin, hty, hnm, hnf, hlt⟩ := cb_cls ci hq
  have hKn := hK.1.1 ci _ hq
  have c1 : gC (sN S i q.2.2) = gC S + 1 := rfl
  have c2 : gN (sN S i q.2.2) = gN S + q.2.2 := rfl
  obtain ⟨t1, t2, t3⟩ := hT
  rw [c1, c2] at hcs
  have hal : ∀ j, gD S j = true → va_up ad i H.size j = ad j := fun j hj => vu_ne (fun e => by rw [e, hni] at hj; cases hj)
  refine W.newcK hx hb hown (hts _ hcl) (hts _ hins) (hts _ hini) rfl hdg (by omega) (by omega) hKn.2.1 rfl fun H1 kC hkC b1 z1 o1 => ?_
  have key := kk (va_up ad i H.size) H1 hal (AC.mn ⟨t1, t2, t3⟩ (MN.nw rfl) hal) (hW.nw hni hno hE hz ⟨fun _ => ?_, fun h => absurd hlt (by omega)⟩ o1) ⟨Nat.le_trans hS.1 (by omega), fun x h1 h2 => (o1 x (Nat.lt_of_lt_of_le h1 hS.1)).trans (hS.2.1 x h1 h2), hS.2.2⟩
  · rw [va_up_self, c1, c2] at key
    refine W.widen (k := gC S + 1 - gC S0) (n := gN S + q.2.2 - gN S0) (by omega) (by omega) key
  · subst hc
    rw [va_up_self, hnf]
    refine (u_born (tyc (kd i)) hts hin hKn hkC b1 hty).to (fun k hk => ?_)
    show _ = vOf _ _ (vt (kd i) k) i k
    rw [show vt (kd i) k = tyv (tyc (kd i) k) from if_pos hlt]
    exact tyv_def _ _ _ _ _ _ (tyc_ok _ hlt k (by have := nf_40 _ hlt; omega))
/-- newarray and anewarray: the cell i comes -/
theorem hn_a {x : Int32} {n ck i : Nat} {atype : ArrayType} {ty : FieldType} {t : Nat} (C : CB p s m args c meth cc own nL rt D cA z ac) (hW : HW D cA z ac E ad S H) (hS : va_S (zA z) s.heap H locs) (hT : AC S0 ad0 S ad) (hz : z ≤ H.size) (hc : kd i = ck) (h6 : 6 ≤ ck) (hln : ln i = n) (hni : gD S i = false) (hno : ¬ (300 ≤ i ∧ i < 600)) (hE : ∀ k, E.2 i k = none) (e1 : S1 = sN S i n)
    (hat : newarray.typeOf atype = ty) (ht : (tyl cA)[t]? = some (cA ck, ty)) (hvt : ∀ k, vt ck k = tyv ty) (hft : ty ≠ .float ∧ ty ≠ .double) (hob : ∀ C0, ty ≠ .object C0) (harr : Cond.arrayClass ty ∈ lw_g) (hx0 : ¬ x < 0) (hxn : x.toNatClampNeg = n) (hby : n * componentBytes ty ≤ 536870912) (hcs : gC S1 - gC S0 ≤ R.cells ∧ gN S1 - gN S0 ≤ R.slots) (hdg : decode cc pc = .ok (.newarray atype, 2))
    (kk : ∀ (ad1 : Nat → Nat) (H : Heap), (∀ j, gD S j = true → ad1 j = ad j) → AC S0 ad0 S1 ad1 → HW D cA z ac E ad1 S1 H → va_S (zA z) s.heap H locs → W p l e R s m args below meth c H locs (gC S1 - gC S0) (gN S1 - gN S0) Q (F0 m (pc + 2) ls (.ref (ad1 i) :: rest))) : W p l e R s m args below meth c H locs (gC S - gC S0) (gN S - gN S0) Q (F0 m pc ls (.int x :: rest)) := by
  subst e1; subst hat
  obtain ⟨⟨hx, hb, hml, hown, hts⟩, hK, hr, hlo⟩ := C
  have c1 : gC (sN S i n) = gC S + 1 := rfl
  have c2 : gN (sN S i n) = gN S + n := rfl
  obtain ⟨t1, t2, t3⟩ := hT
  rw [c1, c2] at hcs
  have hal : ∀ j, gD S j = true → va_up ad i H.size j = ad j := fun j hj => vu_ne (fun e => by rw [e, hni] at hj; cases hj)
  refine va_newaK hx hb (hts _ harr) rfl hdg rfl hx0 hxn hby (by omega) (by omega) rfl fun H1 cX b1 z1 o1 hAr hNm => ?_
  have hcX : cX = cA ck := by
    have h2 := (hK.1.2 t _ ht).2
    have h3 : s.vm.findClass ("[" ++ (newarray.typeOf atype).toString) = some (cA ck) := by
      cases hty : newarray.typeOf atype <;> rw [hty] at h2 hob <;> first | exact h2 | exact absurd rfl (hob _)
    exact Option.some.inj (hNm.symm.trans h3)
  subst hcX
  have key := kk (va_up ad i H.size) H1 hal (AC.mn ⟨t1, t2, t3⟩ (MN.nw rfl) hal) (hW.nw hni hno hE hz ⟨fun h => absurd h (by omega), fun _ => ?_⟩ o1) ⟨Nat.le_trans hS.1 (by omega), fun x h1 h2 => (o1 x (Nat.lt_of_lt_of_le h1 hS.1)).trans (hS.2.1 x h1 h2), hS.2.2⟩
  · rw [va_up_self, c1, c2] at key
    exact W.widen (k := gC S + 1 - gC S0) (n := gN S + n - gN S0) (by omega) (by omega) key
  · rw [va_up_self, b1, hc, hln]
    congr 2
    funext k
    rw [hvt]
    exact tyv_def _ _ _ _ _ _ hft
theorem hn_q {x : Int32} {n ck i index : Nat} {C0 : String} {t : Nat} (C : CB p s m args c meth cc own nL rt D cA z ac) (hW : HW D cA z ac E ad S H) (hS : va_S (zA z) s.heap H locs) (hT : AC S0 ad0 S ad) (hz : z ≤ H.size) (hc : kd i = ck) (h6 : 13 ≤ ck) (hln : ln i = n) (hni : gD S i = false) (hno : ¬ (300 ≤ i ∧ i < 600)) (hE : ∀ k, E.2 i k = none) (e1 : S1 = sN S i n)
    (ht : (tyl cA)[t]? = some (cA ck, .object C0)) (hcl : Cond.classLink own index C0 ∈ lw_g) (hov : va_AO C0 s) (hx0 : ¬ x < 0) (hxn : x.toNatClampNeg = n) (hby : n * 4 ≤ 536870912) (hcs : gC S1 - gC S0 ≤ R.cells ∧ gN S1 - gN S0 ≤ R.slots) (hdg : decode cc pc = .ok (.anewarray index, 3))
    (kk : ∀ (ad1 : Nat → Nat) (H : Heap), (∀ j, gD S j = true → ad1 j = ad j) → AC S0 ad0 S1 ad1 → HW D cA z ac E ad1 S1 H → va_S (zA z) s.heap H locs → W p l e R s m args below meth c H locs (gC S1 - gC S0) (gN S1 - gN S0) Q (F0 m (pc + 3) ls (.ref (ad1 i) :: rest))) : W p l e R s m args below meth c H locs (gC S - gC S0) (gN S - gN S0) Q (F0 m pc ls (.int x :: rest)) := by
  subst e1; subst hxn
  obtain ⟨⟨hx, hb, hml, hown, hts⟩, hK, hr, hlo⟩ := C
  have c1 : gC (sN S i x.toNatClampNeg) = gC S + 1 := rfl
  have c2 : gN (sN S i x.toNatClampNeg) = gN S + x.toNatClampNeg := rfl
  obtain ⟨t1, t2, t3⟩ := hT
  rw [c1, c2] at hcs
  have hal : ∀ j, gD S j = true → va_up ad i H.size j = ad j := fun j hj => vu_ne (fun e => by rw [e, hni] at hj; cases hj)
  refine W.anew hx hb hown (hts _ hcl) (va_AO.use hov) rfl hdg rfl hx0 hby (by omega) (by omega) fun cX kA comp f1 f2 f3 f4 => ?_
  generalize hH1 : H.push ({ cls := cX, slots := Array.replicate x.toNatClampNeg .null, vm := .none } : Cell) = H1
  have z1 : H1.size = H.size + 1 := by rw [← hH1, Array.size_push]
  have b1 : H1[H.size]? = some (arrV cX x.toNatClampNeg (fun _ => .null)) := by rw [← hH1, Array.getElem?_push_size, ← arrV_new]
  have o1 : ∀ q : Nat, q < H.size → H1[q]? = H[q]? := fun q hq => by rw [← hH1, Array.getElem?_push, if_neg (Nat.ne_of_lt hq)]
  have hcX : cX = cA ck := by
    obtain ⟨kA', comp', g1, g2, g3, g4⟩ := (hK.1.2 t _ ht).2
    first | exact Option.some.inj (f1.symm.trans g4) | exact Option.some.inj (f4.symm.trans g4)
  subst hcX
  have key := kk (va_up ad i H.size) H1 hal (AC.mn ⟨t1, t2, t3⟩ (MN.nw rfl) hal) (hW.nw hni hno hE hz ⟨fun h => absurd h (by omega), fun _ => ?_⟩ o1) ⟨Nat.le_trans hS.1 (by omega), fun x h1 h2 => (o1 x (Nat.lt_of_lt_of_le h1 hS.1)).trans (hS.2.1 x h1 h2), hS.2.2⟩
  · rw [va_up_self, c1, c2] at key
    exact W.widen (k := gC S + 1 - gC S0) (n := gN S + x.toNatClampNeg - gN S0) (by omega) (by omega) key
  · rw [va_up_self, b1, hc, hln]
    congr 2
    funext k
    have hvt : vt ck k = 2 := by unfold vt; rw [if_neg (by omega), if_neg (by omega), if_neg (by omega)]
    rw [hvt]
    show Value.null = va_re _ (gX (sN S i _) i k)
    rw [show gX (sN S i x.toNatClampNeg) i k = none from if_pos rfl]
    rfl
/-- putfield of a final reference, in a constructor -/
theorem hp_fin {q : vw_C} {index ci j : Nat} {ty : FieldType} (C : CB p s m args c meth cc own nL rt D cA z ac) (hin2 : meth.name = "<init>") (hW : HW D cA z ac E ad S H) (hS : va_S (zA z) s.heap H locs) (i k : Nat) (hi : gD S i = true) (hc : kd i = ci) (hq : cls[ci]? = some q) (hk : k < q.2.2) (hfin : (q.2.1 k).2.2.2 = true) (hdecl : (q.2.1 k).1 = own) (hl : Cond.fieldLink own index (q.2.1 k).1 (q.2.1 k).2.1 (q.2.1 k).2.2.1 ∈ lw_g)
    (hty0 : tyc ci k = ty) (hv : vt ci k = 2) (hn : narrow ty (.ref (ad j)) = .ref (ad j)) (hft : fits ty (.ref (ad j)) = true) (ho : okid S j) (hE : E.2 i k = none) (e1 : S1 = sX S i k (some j)) (hdg : decode cc pc = .ok (.putfield index, 3))
    (kk : ∀ (H : Heap) (locs : List Loc), HW D cA z ac E ad S1 H → va_S (zA z) s.heap H locs → W p l e R s m args below meth c H locs cells slots Q (F0 m (pc + 3) ls rest)) : W p l e R s m args below meth c H locs cells slots Q (F0 m pc ls (.ref (ad j) :: .ref (ad i) :: rest)) := by
  subst e1; subst hty0
  obtain ⟨⟨hx, hb, hml, hown, hts⟩, hK, hr, hlo⟩ := C
  obtain ⟨hin, hty, hnm, hnf, hlt⟩ := cb_cls ci hq
  have hap := va_apart (own := own) hts hin (tyc ci) hty hnm hK.1 hq
  have h1 : one E S (sX S i k (some j)) i k := one_X (some j) (fun x hx => by cases hx; exact ho) hE
  subst hc
  obtain ⟨cell, q1, q2, q3, q4⟩ := (hW.1 i hi).1 hlt
  rw [hnf] at q4
  obtain ⟨hSl, hfc, kC, hkC, hkind⟩ := hK.1.1 _ _ hq
  obtain ⟨cf, kf, fi, f, hfi, hsl⟩ := hSl k hk
  have hlay := hts _ (hin _ (u_in_lay hk))
  unfold u_lay at hlay
  rw [if_pos hfin] at hlay
  have hst := (u_facts hfc hkC (u_lays hts hin hk) hfi).1
  have hcf : m.cls = cf := by
    obtain ⟨_, _, c', _, _, _, -, -, hf', -, -, -, hown2, -⟩ := Cond.laysFinal_spec hlay
    have e1 : c' = cf := by have := hfi.symm.trans hf'; simp at this; exact this.1.symm
    rw [hdecl] at hown2
    rw [← e1]; exact Option.some.inj (hown.symm.trans hown2)
  have h6 := u_fits hfc hkC hkind (Or.inr hlay) hfi (hty k hk) hn hft
  refine W.putFinK hx hb hown (hts _ hl) hfi hst hcf hin2 (by rw [q2]; exact h6) q1 q3 (by rw [hsl]; exact k2_hasslot (q4 k hk)) rfl rfl hdg fun H' b1 b2 b3 => ?_
  refine kk H' _ (hW.set hi h1 ⟨fun _ => ?_, fun h => absurd hlt (by omega)⟩ b3) (hS.put b2 b3 (hW.2.2.1 i hi))
  rw [hsl] at b1
  rw [hnf]
  refine t_OB.to (V := updV (fun k => vOf ad S (vt (kd i) k) i k) k (.ref (ad j))) ⟨_, b1, q2, q3, t_set q4 hap hk _⟩ (fun x hx => ?_)
  unfold updV
  by_cases ejk : x = k
  · rw [if_pos ejk, ejk, hv]
    show _ = va_re ad (gX _ _ _)
    rw [sX_at]
    rfl
  · rw [if_neg ejk]
    exact (vOf_same (h1.2.1 i x (fun w => ejk w.2)) _).symm
-- ends
theorem QA.mk {vf : (Nat → Nat) → Option Value} {t : State} (hT : AC S0 ad0 S ad) (hW : HW D cA z ac E ad S H) (hS : va_S (zA z) s.heap H locs) (ht : t.heap = H) : QA D cA z ac E ad0 S0 vf S args s (.returned (vf ad)) t :=
  ⟨ad, fun i hi => (hT.1 i hi).2, rfl, by rw [ht]; exact hW, by rw [ht]; exact hS.1, fun q h1 h2 => by rw [ht]; exact hS.2.1 q h1 h2⟩
theorem ea_v {d : Nat} (C : CB p s m args c meth cc own nL none D cA z ac) (hT : AC S0 ad0 S ad) (hW : HW D cA z ac E ad S H) (hS : va_S (zA z) s.heap H locs) (hdg : decode cc pc = .ok (.return_, 1)) : GA p l e d s m args below meth c D cA z ac E ad0 S0 (fun _ => none) S S H locs (F0 m pc ls []) :=
  W.vret C.1.1 C.1.2.1 C.2.2.1 (fun t ht _ => QA.mk hT hW hS ht) hS.2.2 hdg C.2.2.2
theorem ea_i {d : Nat} {v : Int32} (C : CB p s m args c meth cc own nL (some .int) D cA z ac) (hT : AC S0 ad0 S ad) (hW : HW D cA z ac E ad S H) (hS : va_S (zA z) s.heap H locs) (hdg : decode cc pc = .ok (.ireturn, 1)) : GA p l e d s m args below meth c D cA z ac E ad0 S0 (fun _ => some (.int v)) S S H locs (F0 m pc ls [.int v]) :=
  W.iret C.1.1 C.1.2.1 C.2.2.1 (fun t ht _ => QA.mk (vf := fun _ => some (.int v)) hT hW hS ht) hS.2.2 hdg C.2.2.2
theorem ea_r {d j : Nat} {C0 : String} (C : CB p s m args c meth cc own nL (some (.object C0)) D cA z ac) (hT : AC S0 ad0 S ad) (hW : HW D cA z ac E ad S H) (hS : va_S (zA z) s.heap H locs) (hdg : decode cc pc = .ok (.areturn, 1)) : GA p l e d s m args below meth c D cA z ac E ad0 S0 (fun a => some (.ref (a j))) S S H locs (F0 m pc ls [.ref (ad j)]) :=
  W.aret C.1.1 C.1.2.1 C.2.2.1 (Or.inl ⟨_, rfl⟩) (Or.inr ⟨_, rfl⟩) (fun t ht _ => QA.mk (vf := fun a => some (.ref (a j))) hT hW hS ht) hS.2.2 hdg C.2.2.2
-- calls
theorem hx_runA {st0 : List Value} {vf : (Nat → Nat) → Option Value} {a : Array Value} {mc ms : Nat} (hr : va_Run p l e R s m args below meth c H locs cells slots mc ms (F0 m pc ls st0) rest (QA D cA z ac E ad S vf S1 a) (zA z)) (hS : va_S (zA z) s.heap H locs)
    (kk : ∀ (ad1 : Nat → Nat) (H : Heap) (locs : List Loc), (∀ j, gD S j = true → ad1 j = ad j) → HW D cA z ac E ad1 S1 H → va_S (zA z) s.heap H locs → W p l e R s m args below meth c H locs (cells + mc) (slots + ms) Q (F0 m (pc + 3) ls ((vf ad1).toList ++ rest))) : W p l e R s m args below meth c H locs cells slots Q (F0 m pc ls st0) := by
  intro T hT X
  obtain ⟨v', st₀, t, T', L, h0, X', hL, e1, e2, ⟨ad1, ha, hv, hW1, hz, hk⟩, st⟩ := hr T hT X
  cases hv
  rw [h0] at hz hk
  obtain ⟨t2, a1, b1⟩ := kk ad1 T'.heap (locs ++ L) ha (by rw [e1]; exact hW1) ⟨Nat.le_trans hS.1 (by rw [e1]; exact hz), fun q h1 h2 => by rw [e1, hk q (Nat.lt_of_lt_of_le h1 hS.1) h2]; exact hS.2.1 q h1 h2, fun q hq => by
      rcases List.mem_append.mp hq with h | h
      · exact hS.2.2 q h
      · exact hL q h⟩ T' rfl X'
  exact ⟨t2, st t2 a1, b1⟩
theorem ac_sum {mc ms : Nat} {g : JFrame} (hT : AC S0 ad0 S ad) (hm : MN S S1) (e1 : mc = gC S1 - gC S) (e2 : ms = gN S1 - gN S) (h : W p l e R s m args below meth c H locs (gC S1 - gC S0) (gN S1 - gN S0) Q g) : W p l e R s m args below meth c H locs (gC S - gC S0 + mc) (gN S - gN S0 + ms) Q g := by
  obtain ⟨t1, t2, t3⟩ := hT
  obtain ⟨m1, m2, -⟩ := hm
  exact W.widen (k := gC S1 - gC S0) (n := gN S1 - gN S0) (by omega) (by omega) h
theorem ac_fit (hT : AC S0 ad0 S ad) (hm : MN S S1) (hcs : gC S1 - gC S0 ≤ R.cells ∧ gN S1 - gN S0 ≤ R.slots) : gC S - gC S0 + (gC S1 - gC S) ≤ R.cells ∧ gN S - gN S0 + (gN S1 - gN S) ≤ R.slots := by
  obtain ⟨t1, t2, t3⟩ := hT
  obtain ⟨m1, m2, -⟩ := hm
  omega
theorem hx_VA {y : MethodName} {bs : ByteArray} {maxL idx n d i ci : Nat} {ret : Option FieldType} {vf : (Nat → Nat) → Option Value} {q : vw_C} {As st0 : List Value} (C : CB p s m args c meth cc own nL rt D cA z ac) (hW : HW D cA z ac E ad S H) (hS : va_S (zA z) s.heap H locs) (hT : AC S0 ad0 S ad)
    (hM : Met l y (Cond.code y bs maxL ret :: lw_g) (rmD d (gC S1 - gC S) (gN S1 - gN S)) (PcH D cA z ac E ad (.ref (ad i) :: As) S) (QA D cA z ac E ad S vf S1) (gC S1 - gC S) (gN S1 - gN S) (zA z)) (hm : MN S S1)
    (hl : Cond.methodLink own idx y ∈ lw_g) (hv : Cond.instanceMethod y ∈ lw_g) (he : Cond.selects y.cls y y ∈ lw_g) (hn : Cond.initialized y.cls ∈ lw_g) (hw : Cond.code y bs maxL ret ∈ lw_g) (hd : y.cls ≠ "java/lang/invoke/MethodHandle" ∧ y.cls ≠ "java/lang/invoke/VarHandle" ∧ (parseMethodDescriptor y.desc).map (fun d => d.parameters.length) = some n)
    (hi : gD S i = true) (hc : kd i = ci) (hq : cls[ci]? = some q) (hy : q.1 = y.cls) (hR : d + 1 ≤ R.frames ∧ 8 + (maxL + 11) + 31 * d ≤ R.locals) (hcs : gC S1 - gC S0 ≤ R.cells ∧ gN S1 - gN S0 ≤ R.slots) (hAs : As.length = n) (hsz : ls.size = nL) (hst : st0 = As.reverse ++ .ref (ad i) :: rest) (hrm : (rest.map fun v => v.category).sum ≤ 8) (hdg : decode cc pc = .ok (.invokevirtual idx, 3))
    (kk : ∀ (ad1 : Nat → Nat) (H : Heap) (locs : List Loc), (∀ j, gD S j = true → ad1 j = ad j) → AC S0 ad0 S1 ad1 → HW D cA z ac E ad1 S1 H → va_S (zA z) s.heap H locs → W p l e R s m args below meth c H locs (gC S1 - gC S0) (gN S1 - gN S0) Q (F0 m (pc + 3) ls ((vf ad1).toList ++ rest))) : W p l e R s m args below meth c H locs (gC S - gC S0) (gN S - gN S0) Q (F0 m pc ls st0) := by
  obtain ⟨hF, hK, hr, hlo⟩ := C
  have hts := hF.2.2.2.2
  obtain ⟨-, -, -, -, hlt⟩ := cb_cls ci hq
  refine hx_runA (va_runV (C := y.cls) (b := ad i) (As := As) (rest := rest) hF hM ⟨callB_of n hts (hx_good hw) rfl rfl rfl (hts _ hn) (hts _ hl) hd hR, hts _ hv, hts _ he⟩ ⟨PcH.blind, ?_, fun U hU hWU => ⟨rfl, by rw [hU]; exact hW, hK.at hS hU hWU⟩⟩ rfl hAs hsz hst (by simpa using hrm) hdg (ac_fit hT hm hcs)) hS (fun ad1 H locs ha hW1 hS1 => ac_sum hT hm rfl rfl (kk ad1 H locs ha (hT.mn hm ha) hW1 hS1))
  subst hc
  obtain ⟨cell, q1, q2, q3, -⟩ := (hW.1 i hi).1 hlt
  exact ⟨cell, q1, by rw [q3]; rfl, by rw [q2, ← hy]; exact (hK.1.1 _ _ hq).2.1⟩
/-- invokespecial of a constructor: the plain link, or a nest mate's -/
theorem hx_IA {y : MethodName} {bs : ByteArray} {maxL idx n d i : Nat} {vf : (Nat → Nat) → Option Value} {As st0 : List Value} (C : CB p s m args c meth cc own nL rt D cA z ac) (hW : HW D cA z ac E ad S H) (hS : va_S (zA z) s.heap H locs) (hT : AC S0 ad0 S ad)
    (hM : Met l y (Cond.code y bs maxL none :: lw_g) (rmD d (gC S1 - gC S) (gN S1 - gN S)) (PcH D cA z ac E ad (.ref (ad i) :: As) S) (QA D cA z ac E ad S vf S1) (gC S1 - gC S) (gN S1 - gN S) (zA z)) (hm : MN S S1)
    (hl : Cond.methodLink own idx y ∈ lw_g ∨ ∃ host, Cond.methodLinkNest own idx y host ∈ lw_nest) (hv : Cond.instanceMethod y ∈ lw_g) (hn : Cond.initialized y.cls ∈ lw_g) (hw : Cond.code y bs maxL none ∈ lw_g) (hd : y.cls ≠ "java/lang/invoke/MethodHandle" ∧ y.cls ≠ "java/lang/invoke/VarHandle" ∧ (parseMethodDescriptor y.desc).map (fun d => d.parameters.length) = some n)
    (hy1 : y.name = "<init>") (hR : d + 1 ≤ R.frames ∧ 8 + (maxL + 11) + 31 * d ≤ R.locals) (hcs : gC S1 - gC S0 ≤ R.cells ∧ gN S1 - gN S0 ≤ R.slots) (hAs : As.length = n) (hsz : ls.size = nL) (hst : st0 = As.reverse ++ .ref (ad i) :: rest) (hrm : (rest.map fun v => v.category).sum ≤ 8) (hdg : decode cc pc = .ok (.invokespecial idx, 3))
    (kk : ∀ (ad1 : Nat → Nat) (H : Heap) (locs : List Loc), (∀ j, gD S j = true → ad1 j = ad j) → AC S0 ad0 S1 ad1 → HW D cA z ac E ad1 S1 H → va_S (zA z) s.heap H locs → W p l e R s m args below meth c H locs (gC S1 - gC S0) (gN S1 - gN S0) Q (F0 m (pc + 3) ls ((vf ad1).toList ++ rest))) : W p l e R s m args below meth c H locs (gC S - gC S0) (gN S - gN S0) Q (F0 m pc ls st0) := by
  obtain ⟨hF, hK, hr, hlo⟩ := C
  have hts := hF.2.2.2.2
  have hpre : PreS s H (PcH D cA z ac E ad (.ref (ad i) :: As) S) (.ref (ad i) :: As) := ⟨PcH.blind, fun U hU hWU => ⟨rfl, by rw [hU]; exact hW, hK.at hS hU hWU⟩⟩
  have fin := fun ad1 H locs ha hW1 hS1 => ac_sum (Q := Q) hT hm rfl rfl (kk ad1 H locs ha (hT.mn hm ha) hW1 hS1)
  rcases hl with hl | ⟨host, hl⟩
  · exact hx_runA (va_runI (b := ad i) (As := As) (rest := rest) hF hM ⟨callB_of n hts (hx_good hw) rfl rfl rfl (hts _ hn) (hts _ hl) hd hR, hy1, hts _ hv⟩ hpre rfl hAs hsz hst (by simpa using hrm) hdg (ac_fit hT hm hcs)) hS fin
  · exact hx_runA (va_runIN (b := ad i) (As := As) (rest := rest) hF hM ⟨va_cnB n hts (hx_good hw) rfl rfl rfl (hK.2.1 _ hl) (hts _ hn) hd hR, hy1, hts _ hv⟩ hpre rfl hAs hsz hst (by simpa using hrm) hdg (ac_fit hT hm hcs)) hS fin
theorem Met.ofHA {y : MethodName} {maxL d : Nat} {ret : Option FieldType} {vf : (Nat → Nat) → Option Value} {av : List Value} (hy : plainName y.cls = true) (hyo : y.cls = own) (hlen : (lg_sl av).length ≤ maxL)
    (body : ∀ (p : Program) (e : Env) (s : State) (m : MethodId) (args : Array Value) (below : List Frame) (meth : Method) (c : Code) (H : Heap) (ls : Array Slot), CB p s m args c meth cc own maxL ret D cA z ac → meth.name = y.name → HW D cA z ac E ad S H → va_S (zA z) s.heap H [] → lv_has ls maxL (lv_args 0 av) → GA p l e d s m args below meth c D cA z ac E ad S vf S1 S H [] (F0 m 0 ls [])) :
    Met l y (Cond.code y cc maxL ret :: lw_g) (rmD d (gC S1 - gC S) (gN S1 - gN S)) (PcH D cA z ac E ad av S) (QA D cA z ac E ad S vf S1) (gC S1 - gC S) (gN S1 - gN S) (zA z) := by
  refine Met.ofW (cc := cc) (maxL := maxL) (ret := ret) hy rfl ?_
  intro p e s m args below meth c s₁ B hml hv
  obtain ⟨rfl, hW, hK⟩ := hv
  have hts := atoms_spec (ws := Cond.code y cc maxL ret :: lw_g) B.pre
  have hl := lv_entry av (n := maxL) hlen
  rw [lg_entry_eq]
  have key := body p e s m _ below meth c s.heap _ ⟨⟨B.exec, B.bytes, hml, by rw [← hyo]; exact findClass_of_methodNamed B.named, fun w hw => hts w (List.mem_cons_of_mem _ hw)⟩, hK, B.returns, B.notSynchronized⟩ (name_of_methodNamed B.named B.method).1 hW va_S.rf hl
  exact W.widen (k := gC S - gC S) (n := gN S - gN S) (Nat.zero_le _) (Nat.zero_le _) key
/-- a constructor that makes nothing -/
theorem hx_I0 {y : MethodName} {bs : ByteArray} {maxL idx n d i : Nat} {v : Option Value} {As st0 : List Value} (C : CB p s m args c meth cc own nL rt D cA z ac) (hW : HW D cA z ac E ad S H) (hS : va_S (zA z) s.heap H locs)
    (hM : Met l y (Cond.code y bs maxL none :: lw_g) (rmD d 0 0) (PcH D cA z ac E ad (.ref (ad i) :: As) S) (QN D cA z ac E ad v S1) 0 0 (zA z))
    (hl : Cond.methodLink own idx y ∈ lw_g ∨ ∃ host, Cond.methodLinkNest own idx y host ∈ lw_nest) (hv : Cond.instanceMethod y ∈ lw_g) (hn : Cond.initialized y.cls ∈ lw_g) (hw : Cond.code y bs maxL none ∈ lw_g) (hd : y.cls ≠ "java/lang/invoke/MethodHandle" ∧ y.cls ≠ "java/lang/invoke/VarHandle" ∧ (parseMethodDescriptor y.desc).map (fun d => d.parameters.length) = some n)
    (hy1 : y.name = "<init>") (hR : d + 1 ≤ R.frames ∧ 8 + (maxL + 11) + 31 * d ≤ R.locals) (hcs : cells ≤ R.cells ∧ slots ≤ R.slots) (hAs : As.length = n) (hsz : ls.size = nL) (hst : st0 = As.reverse ++ .ref (ad i) :: rest) (hrm : (rest.map fun v => v.category).sum ≤ 8) (hdg : decode cc pc = .ok (.invokespecial idx, 3))
    (kk : ∀ (H : Heap) (locs : List Loc), HW D cA z ac E ad S1 H → va_S (zA z) s.heap H locs → W p l e R s m args below meth c H locs cells slots Q (F0 m (pc + 3) ls (v.toList ++ rest))) : W p l e R s m args below meth c H locs cells slots Q (F0 m pc ls st0) := by
  obtain ⟨hF, hK, hr, hlo⟩ := C
  have hts := hF.2.2.2.2
  have hpre : PreS s H (PcH D cA z ac E ad (.ref (ad i) :: As) S) (.ref (ad i) :: As) := ⟨PcH.blind, fun U hU hWU => ⟨rfl, by rw [hU]; exact hW, hK.at hS hU hWU⟩⟩
  rcases hl with hl | ⟨host, hl⟩
  · exact hx_run (va_runI (b := ad i) (As := As) (rest := rest) hF hM ⟨callB_of n hts (hx_good hw) rfl rfl rfl (hts _ hn) (hts _ hl) hd hR, hy1, hts _ hv⟩ hpre rfl hAs hsz hst (by simpa using hrm) hdg hcs) hS kk
  · exact hx_run (va_runIN (b := ad i) (As := As) (rest := rest) hF hM ⟨va_cnB n hts (hx_good hw) rfl rfl rfl (hK.2.1 _ hl) (hts _ hn) hd hR, hy1, hts _ hv⟩ hpre rfl hAs hsz hst (by simpa using hrm) hdg hcs) hS kk
theorem s_N_init (i : Nat) : Met l y_N_init (.code y_N_init b_N_init 1 none :: lw_g) (rmD 1 0 0) (PcH D cA z ac E ad [.ref (ad i)] S) (QN D cA z ac E ad none S) 0 0 (zA z) := by
  refine Met.ofH (own := "TwoLevelParser$Node") (by decide) rfl (Nat.le_of_ble_eq_true rfl) ?_
  intro p e s m args below meth c H ls C hW hS hl
  have hl : lv_has ls 1 [(0, .ref (ad i))] := hl
  obtain ⟨⟨hx, hb, hml, hown, hts⟩, hK, hr, hlo⟩ := id C
  refine lv_aload_n hx hb d_N_init_0 rfl (lv_at hl 0 rfl) ?_
  refine W.objInit hx hb hown (hts _ km_N_1) (hts _ ko_ins) (hts _ ko_code) rfl (by rw [hml]; exact hl.1) rfl d_N_init_1 (Nat.le_of_ble_eq_true rfl) (Nat.le_of_ble_eq_true rfl) ?_
  exact he_v C hW hS d_N_init_4
theorem s_O_init (i : Nat) : Met l y_O_init (.code y_O_init b_O_init 1 none :: lw_g) (rmD 1 0 0) (PcH D cA z ac E ad [.ref (ad i)] S) (QN D cA z ac E ad none S) 0 0 (zA z) := by
  refine Met.ofH (own := "TwoLevelParser$Open") (by decide) rfl (Nat.le_of_ble_eq_true rfl) ?_
  intro p e s m args below meth c H ls C hW hS hl
  have hl : lv_has ls 1 [(0, .ref (ad i))] := hl
  obtain ⟨⟨hx, hb, hml, hown, hts⟩, hK, hr, hlo⟩ := id C
  refine lv_aload_n hx hb d_O_init_0 rfl (lv_at hl 0 rfl) ?_
  refine W.objInit hx hb hown (hts _ km_O_1) (hts _ ko_ins) (hts _ ko_code) rfl (by rw [hml]; exact hl.1) rfl d_O_init_1 (Nat.le_of_ble_eq_true rfl) (Nat.le_of_ble_eq_true rfl) ?_
  exact he_v C hW hS d_O_init_4
end HA
theorem ite_or {α : Type} {c : Prop} [Decidable c] {a b y : α} (h : (if c then a else b) = y) : (c ∧ a = y) ∨ (¬ c ∧ b = y) := by
  by_cases hc : c
  · rw [if_pos hc] at h; exact Or.inl ⟨hc, h⟩
  · rw [if_neg hc] at h; exact Or.inr ⟨hc, h⟩
