-- ROWS over the world: an instruction a row
section HR
variable {p : Program} {l : Launch} {e : Env} {R : Jvm.Room} {s : State} {m : MethodId} {args : Array Value} {below : List Frame} {meth : Method} {c : Code} {H : Heap} {locs : List Loc} {cells slots : Nat} {Q : State → Prop}
variable {cc : ByteArray} {pc : Nat} {ls : Array Slot} {rest : List Value} {own : String} {nL : Nat} {rt : Option FieldType} {D : va_G} {cA : Nat → ClassId} {z : Nat} {ac : Nat → Nat} {E : EV} {ad : Nat → Nat} {S S1 : HS}
theorem cb_cls {q : vw_C} (ci : Nat) (hq : cls[ci]? = some q) : (∀ w ∈ u_ws q.1 q.2.1 q.2.2, w ∈ lw_g) ∧ (∀ k, k < q.2.2 → parseFieldDescriptor (q.2.1 k).2.2.1 = some (tyc ci k)) ∧ (∀ a, a < q.2.2 → ∀ b, b < q.2.2 → a ≠ b → (q.2.1 a).2.1 ≠ (q.2.1 b).2.1) ∧ nf ci = q.2.2 ∧ ci < 6 := by
  match ci, hq with
  | 0, hq => cases hq; exact ⟨i_P, t_P_ok, n_P, rfl, by decide⟩
  | 1, hq => cases hq; exact ⟨i_X, t_X_ok, n_X, rfl, by decide⟩
  | 2, hq => cases hq; exact ⟨i_D, t_D_ok, n_D, rfl, by decide⟩
  | 3, hq => cases hq; exact ⟨i_N, t_N_ok, n_N, rfl, by decide⟩
  | 4, hq => cases hq; exact ⟨i_O, t_O_ok, n_O, rfl, by decide⟩
  | 5, hq => cases hq; exact ⟨i_M, t_M_ok, n_M, rfl, by decide⟩
  | k + 6, hq => simp [cls] at hq
/-- a field's link: the plain one, or a nest mate's -/
def LK (own : String) (index : Nat) (ref name desc : String) (args : Array Value) (s : State) : Prop := (Cond.fieldLink own index ref name desc).before args s = true ∨ ∃ host, (Cond.fieldLinkNest own index ref name desc host).before args s = true
theorem lkF {index : Nat} {ref name desc : String} (C : CB p s m args c meth cc own nL rt D cA z ac) (h : Cond.fieldLink own index ref name desc ∈ lw_g) : LK own index ref name desc args s := Or.inl (C.1.2.2.2.2 _ h)
theorem lkN {index : Nat} {ref name desc host : String} (C : CB p s m args c meth cc own nL rt D cA z ac) (h : Cond.fieldLinkNest own index ref name desc host ∈ lw_nest) : LK own index ref name desc args s := Or.inr ⟨host, va_Nw.use rfl (C.2.1.2.1 _ h)⟩
theorem hg_gen {q : vw_C} {index ci : Nat} (C : CB p s m args c meth cc own nL rt D cA z ac) (hW : HW D cA z ac E ad S H) (i k : Nat) (hi : gD S i = true) (hc : kd i = ci) (hq : cls[ci]? = some q) (hk : k < q.2.2) (hlk : LK own index (q.2.1 k).1 (q.2.1 k).2.1 (q.2.1 k).2.2.1 args s) {v : Value} (hv : vOf ad S (vt ci k) i k = v) (hdg : decode cc pc = .ok (.getfield index, 3))
    (kk : W p l e R s m args below meth c H locs cells slots Q (F0 m (pc + 3) ls (v :: rest))) : W p l e R s m args below meth c H locs cells slots Q (F0 m pc ls (.ref (ad i) :: rest)) := by
  obtain ⟨⟨hx, hb, hml, hown, hts⟩, hK, hr, hlo⟩ := C
  obtain ⟨hin, hty, hnm, hnf, hlt⟩ := cb_cls ci hq
  subst hc
  obtain ⟨cell, q1, q2, q3, q4⟩ := (hW.1 i hi).1 hlt
  rw [hnf] at q4
  obtain ⟨hSl, hfc, kC, hkC, hkind⟩ := hK.1.1 _ _ hq
  obtain ⟨cf, kf, fi, f, hfi, hsl⟩ := hSl k hk
  have hst := (u_facts hfc hkC (u_lays hts hin hk) hfi).1
  have hsv : cell.slots[f.slot]? = some v := by rw [hsl, q4 k hk, ← hv]
  rcases hlk with hl | ⟨host, hl⟩
  · exact W.getf hx hb hown hl hfi hst q1 (by rw [q3]; exact fun h => by cases h) hsv rfl rfl hdg kk
  · exact va_Wgetf hx hb hown hl hfi hst q1 (by rw [q3]; exact fun h => by cases h) hsv rfl rfl hdg kk
/-- getfield: an int, a long, a reference that may be null, one that isn't -/
theorem hg_i {q : vw_C} {index ci : Nat} (C : CB p s m args c meth cc own nL rt D cA z ac) (hW : HW D cA z ac E ad S H) (i k : Nat) (hi : gD S i = true) (hc : kd i = ci) (hq : cls[ci]? = some q) (hk : k < q.2.2) (ht : vt ci k = 0) (hlk : LK own index (q.2.1 k).1 (q.2.1 k).2.1 (q.2.1 k).2.2.1 args s) (hdg : decode cc pc = .ok (.getfield index, 3))
    (kk : W p l e R s m args below meth c H locs cells slots Q (F0 m (pc + 3) ls (.int (gF S i k) :: rest))) : W p l e R s m args below meth c H locs cells slots Q (F0 m pc ls (.ref (ad i) :: rest)) := hg_gen C hW i k hi hc hq hk hlk (by rw [ht]; rfl) hdg kk
theorem hg_l {q : vw_C} {index ci : Nat} (C : CB p s m args c meth cc own nL rt D cA z ac) (hW : HW D cA z ac E ad S H) (i k : Nat) (hi : gD S i = true) (hc : kd i = ci) (hq : cls[ci]? = some q) (hk : k < q.2.2) (ht : vt ci k = 1) (hlk : LK own index (q.2.1 k).1 (q.2.1 k).2.1 (q.2.1 k).2.2.1 args s) (hdg : decode cc pc = .ok (.getfield index, 3))
    (kk : W p l e R s m args below meth c H locs cells slots Q (F0 m (pc + 3) ls (.long (gL S i k) :: rest))) : W p l e R s m args below meth c H locs cells slots Q (F0 m pc ls (.ref (ad i) :: rest)) := hg_gen C hW i k hi hc hq hk hlk (by rw [ht]; rfl) hdg kk
theorem hg_q {q : vw_C} {index ci : Nat} (C : CB p s m args c meth cc own nL rt D cA z ac) (hW : HW D cA z ac E ad S H) (i k : Nat) (hi : gD S i = true) (hc : kd i = ci) (hq : cls[ci]? = some q) (hk : k < q.2.2) (ht : vt ci k = 2) (hlk : LK own index (q.2.1 k).1 (q.2.1 k).2.1 (q.2.1 k).2.2.1 args s) (hdg : decode cc pc = .ok (.getfield index, 3))
    (kk : W p l e R s m args below meth c H locs cells slots Q (F0 m (pc + 3) ls (va_re ad (gX S i k) :: rest))) : W p l e R s m args below meth c H locs cells slots Q (F0 m pc ls (.ref (ad i) :: rest)) := hg_gen C hW i k hi hc hq hk hlk (by rw [ht]; rfl) hdg kk
theorem hg_r {q : vw_C} {index ci j : Nat} (C : CB p s m args c meth cc own nL rt D cA z ac) (hW : HW D cA z ac E ad S H) (i k : Nat) (hi : gD S i = true) (hc : kd i = ci) (hq : cls[ci]? = some q) (hk : k < q.2.2) (ht : vt ci k = 2) (hj : gX S i k = some j) (hlk : LK own index (q.2.1 k).1 (q.2.1 k).2.1 (q.2.1 k).2.2.1 args s) (hdg : decode cc pc = .ok (.getfield index, 3))
    (kk : W p l e R s m args below meth c H locs cells slots Q (F0 m (pc + 3) ls (.ref (ad j) :: rest))) : W p l e R s m args below meth c H locs cells slots Q (F0 m pc ls (.ref (ad i) :: rest)) := hg_gen C hW i k hi hc hq hk hlk (by rw [ht]; show va_re ad (gX S i k) = _; rw [hj]; rfl) hdg kk
theorem hp_gen {q : vw_C} {index ci : Nat} (C : CB p s m args c meth cc own nL rt D cA z ac) (hW : HW D cA z ac E ad S H) (hS : va_S (zA z) s.heap H locs) (i k : Nat) (hi : gD S i = true) (hc : kd i = ci) (hq : cls[ci]? = some q) (hk : k < q.2.2) (hfin : (q.2.1 k).2.2.2 = false) (hlk : LK own index (q.2.1 k).1 (q.2.1 k).2.1 (q.2.1 k).2.2.1 args s)
    (h1 : one E S S1 i k) {v : Value} (hv : vOf ad S1 (vt ci k) i k = v) (hn : narrow (tyc ci k) v = v) (hft : fits (tyc ci k) v = true) (hdg : decode cc pc = .ok (.putfield index, 3))
    (kk : ∀ (H : Heap) (locs : List Loc), HW D cA z ac E ad S1 H → va_S (zA z) s.heap H locs → W p l e R s m args below meth c H locs cells slots Q (F0 m (pc + 3) ls rest)) : W p l e R s m args below meth c H locs cells slots Q (F0 m pc ls (v :: .ref (ad i) :: rest)) := by
  obtain ⟨⟨hx, hb, hml, hown, hts⟩, hK, hr, hlo⟩ := C
  obtain ⟨hin, hty, hnm, hnf, hlt⟩ := cb_cls ci hq
  have hap := va_apart (own := own) hts hin (tyc ci) hty hnm hK.1 hq
  subst hc
  obtain ⟨cell, q1, q2, q3, q4⟩ := (hW.1 i hi).1 hlt
  rw [hnf] at q4
  obtain ⟨hSl, hfc, kC, hkC, hkind⟩ := hK.1.1 _ _ hq
  obtain ⟨cf, kf, fi, f, hfi, hsl⟩ := hSl k hk
  have hlay := hts _ (hin _ (u_in_lay hk))
  unfold u_lay at hlay
  rw [if_neg (by rw [hfin]; decide)] at hlay
  have hst := (u_facts hfc hkC (u_lays hts hin hk) hfi).1
  have h6 := u_store hfc hkC hkind hlay hfi (hty k hk) hn hft
  have fin : ∀ H' : Heap, H'[ad i]? = some (cell.setSlot f.slot v) → H'.size = H.size → (∀ q, q ≠ ad i → H'[q]? = H[q]?) → W p l e R s m args below meth c H' (locs ++ [⟨ad i, f.slot⟩]) cells slots Q (F0 m (pc + 3) ls rest) := by
    intro H' e1 e2 e3
    refine kk H' _ (hW.set hi h1 ⟨fun _ => ?_, fun h => absurd hlt (by omega)⟩ e3) (hS.put e2 e3 (hW.2.2.1 i hi))
    rw [hsl] at e1
    rw [hnf]
    refine t_OB.to (V := updV (fun k => vOf ad S (vt (kd i) k) i k) k v) ⟨_, e1, q2, q3, t_set q4 hap hk v⟩ (fun j hj => ?_)
    unfold updV
    by_cases ejk : j = k
    · rw [if_pos ejk, ejk, hv]
    · rw [if_neg ejk]
      exact (vOf_same (h1.2.1 i j (fun w => ejk w.2)) _).symm
  rcases hlk with hl | ⟨host, hl⟩
  · exact W.putK hx hb (f := f) ⟨hown, hl, ⟨_, _, _, hfi⟩, hst⟩ (by rw [q2]; exact h6) q1 q3 (by rw [hsl]; exact k2_hasslot (q4 k hk)) rfl rfl hdg fin
  · exact va_WputK hx hb (f := f) hown hl hfi hst (by rw [q2]; exact h6) q1 q3 (by rw [hsl]; exact k2_hasslot (q4 k hk)) rfl rfl hdg fin
/-- putfield of an int (the slot's type is int), a long, a reference, a truth -/
theorem hp_i {q : vw_C} {index ci : Nat} {v : Int32} (C : CB p s m args c meth cc own nL rt D cA z ac) (hW : HW D cA z ac E ad S H) (hS : va_S (zA z) s.heap H locs) (i k : Nat) (hi : gD S i = true) (hc : kd i = ci) (hq : cls[ci]? = some q) (hk : k < q.2.2) (ht : tyc ci k = .int) (hv : vt ci k = 0) (hfin : (q.2.1 k).2.2.2 = false) (hlk : LK own index (q.2.1 k).1 (q.2.1 k).2.1 (q.2.1 k).2.2.1 args s)
    (e1 : S1 = sF S i k v) (hdg : decode cc pc = .ok (.putfield index, 3))
    (kk : ∀ (H : Heap) (locs : List Loc), HW D cA z ac E ad S1 H → va_S (zA z) s.heap H locs → W p l e R s m args below meth c H locs cells slots Q (F0 m (pc + 3) ls rest)) : W p l e R s m args below meth c H locs cells slots Q (F0 m pc ls (.int v :: .ref (ad i) :: rest)) := by
  subst e1
  exact hp_gen C hW hS i k hi hc hq hk hfin hlk (one_F hW hi v) (by rw [hv]; show Value.int (gF (sF S i k v) i k) = _; rw [sF_at]) (by rw [ht]; rfl) (by rw [ht]; rfl) hdg kk
theorem hp_z {q : vw_C} {index ci : Nat} {v : Int32} (C : CB p s m args c meth cc own nL rt D cA z ac) (hW : HW D cA z ac E ad S H) (hS : va_S (zA z) s.heap H locs) (i k : Nat) (hi : gD S i = true) (hc : kd i = ci) (hq : cls[ci]? = some q) (hk : k < q.2.2) (ht : tyc ci k = .boolean) (hv : vt ci k = 0) (hfin : (q.2.1 k).2.2.2 = false) (hlk : LK own index (q.2.1 k).1 (q.2.1 k).2.1 (q.2.1 k).2.2.1 args s)
    (hb : v = 0 ∨ v = 1) (e1 : S1 = sF S i k v) (hdg : decode cc pc = .ok (.putfield index, 3))
    (kk : ∀ (H : Heap) (locs : List Loc), HW D cA z ac E ad S1 H → va_S (zA z) s.heap H locs → W p l e R s m args below meth c H locs cells slots Q (F0 m (pc + 3) ls rest)) : W p l e R s m args below meth c H locs cells slots Q (F0 m pc ls (.int v :: .ref (ad i) :: rest)) := by
  subst e1
  refine hp_gen C hW hS i k hi hc hq hk hfin hlk (one_F hW hi v) (by rw [hv]; show Value.int (gF (sF S i k v) i k) = _; rw [sF_at]) ?_ ?_ hdg kk
  · rw [ht]; rcases hb with rfl | rfl <;> rfl
  · rw [ht]; rcases hb with rfl | rfl <;> rfl
theorem hp_l {q : vw_C} {index ci : Nat} {v : Int64} (C : CB p s m args c meth cc own nL rt D cA z ac) (hW : HW D cA z ac E ad S H) (hS : va_S (zA z) s.heap H locs) (i k : Nat) (hi : gD S i = true) (hc : kd i = ci) (hq : cls[ci]? = some q) (hk : k < q.2.2) (ht : tyc ci k = .long) (hv : vt ci k = 1) (hfin : (q.2.1 k).2.2.2 = false) (hlk : LK own index (q.2.1 k).1 (q.2.1 k).2.1 (q.2.1 k).2.2.1 args s)
    (e1 : S1 = sL S i k v) (hdg : decode cc pc = .ok (.putfield index, 3))
    (kk : ∀ (H : Heap) (locs : List Loc), HW D cA z ac E ad S1 H → va_S (zA z) s.heap H locs → W p l e R s m args below meth c H locs cells slots Q (F0 m (pc + 3) ls rest)) : W p l e R s m args below meth c H locs cells slots Q (F0 m pc ls (.long v :: .ref (ad i) :: rest)) := by
  subst e1
  exact hp_gen C hW hS i k hi hc hq hk hfin hlk (one_L hW hi v) (by rw [hv]; show Value.long (gL (sL S i k v) i k) = _; rw [sL_at]) (by rw [ht]; rfl) (by rw [ht]; rfl) hdg kk
theorem hp_r {q : vw_C} {index ci j : Nat} {C0 : String} (C : CB p s m args c meth cc own nL rt D cA z ac) (hW : HW D cA z ac E ad S H) (hS : va_S (zA z) s.heap H locs) (i k : Nat) (hi : gD S i = true) (hc : kd i = ci) (hq : cls[ci]? = some q) (hk : k < q.2.2) (ht : tyc ci k = .object C0) (hv : vt ci k = 2) (hfin : (q.2.1 k).2.2.2 = false) (hlk : LK own index (q.2.1 k).1 (q.2.1 k).2.1 (q.2.1 k).2.2.1 args s)
    (ho : okid S j) (hE : E.2 i k = none) (e1 : S1 = sX S i k (some j)) (hdg : decode cc pc = .ok (.putfield index, 3))
    (kk : ∀ (H : Heap) (locs : List Loc), HW D cA z ac E ad S1 H → va_S (zA z) s.heap H locs → W p l e R s m args below meth c H locs cells slots Q (F0 m (pc + 3) ls rest)) : W p l e R s m args below meth c H locs cells slots Q (F0 m pc ls (.ref (ad j) :: .ref (ad i) :: rest)) := by
  subst e1
  exact hp_gen C hW hS i k hi hc hq hk hfin hlk (one_X (some j) (fun x hx => by cases hx; exact ho) hE) (by rw [hv]; show va_re ad (gX (sX S i k (some j)) i k) = _; rw [sX_at]; rfl) (by rw [ht]; rfl) (by rw [ht]; rfl) hdg kk
-- arrays
theorem ha_lt {n : Nat} {x : Int32} (h : vp_in x n) : x.toNatClampNeg < n := Nat.not_le.mp fun q => h (Or.inr q)
theorem ha_cell (hW : HW D cA z ac E ad S H) (i : Nat) {ck : Nat} (hi : gD S i = true) (hc : kd i = ck) (h6 : 6 ≤ ck) : H[ad i]? = some (arrV (cA ck) (ln i) (fun k => vOf ad S (vt ck k) i k)) := by
  subst hc
  exact (hW.1 i hi).2 h6
theorem ha_i {x : Int32} {n : Nat} (C : CB p s m args c meth cc own nL rt D cA z ac) (hW : HW D cA z ac E ad S H) (i : Nat) (hi : gD S i = true) (hc : kd i = 11) (hn : ln i = n) (hin : vp_in x n) (hdg : decode cc pc = .ok (.iaload, 1))
    (kk : W p l e R s m args below meth c H locs cells slots Q (F0 m (pc + 1) ls (.int (gF S i x.toNatClampNeg) :: rest))) : W p l e R s m args below meth c H locs cells slots Q (F0 m pc ls (.int x :: .ref (ad i) :: rest)) := by
  subst hn
  exact W.iald (v := .int (gF S i x.toNatClampNeg)) C.1.1 C.1.2.1 (ha_cell hW i hi hc (by decide)) ((C.2.1.1.2 1 _ rfl).1 _ _) (fun q => by cases q) (by rw [arrV_size]; exact hin) (by rw [arrV_read _ _ (ha_lt hin)]; rfl) rfl rfl hdg kk
theorem ha_b {x : Int32} {n : Nat} (C : CB p s m args c meth cc own nL rt D cA z ac) (hW : HW D cA z ac E ad S H) (i : Nat) (hi : gD S i = true) (hc : kd i = 10) (hn : ln i = n) (hin : vp_in x n) (hdg : decode cc pc = .ok (.baload, 1))
    (kk : W p l e R s m args below meth c H locs cells slots Q (F0 m (pc + 1) ls (.int (gF S i x.toNatClampNeg) :: rest))) : W p l e R s m args below meth c H locs cells slots Q (F0 m pc ls (.int x :: .ref (ad i) :: rest)) := by
  subst hn
  exact W.bald (v := .int (gF S i x.toNatClampNeg)) C.1.1 C.1.2.1 (ha_cell hW i hi hc (by decide)) ((C.2.1.1.2 0 _ rfl).1 _ _) (fun q => by cases q) (by rw [arrV_size]; exact hin) (by rw [arrV_read _ _ (ha_lt hin)]; rfl) rfl rfl hdg kk
theorem ha_l {x : Int32} {n : Nat} (C : CB p s m args c meth cc own nL rt D cA z ac) (hW : HW D cA z ac E ad S H) (i : Nat) (hi : gD S i = true) (hc : kd i = 12) (hn : ln i = n) (hin : vp_in x n) (hdg : decode cc pc = .ok (.laload, 1))
    (kk : W p l e R s m args below meth c H locs cells slots Q (F0 m (pc + 1) ls (.long (gL S i x.toNatClampNeg) :: rest))) : W p l e R s m args below meth c H locs cells slots Q (F0 m pc ls (.int x :: .ref (ad i) :: rest)) := by
  subst hn
  exact W.lald (v := .long (gL S i x.toNatClampNeg)) C.1.1 C.1.2.1 (ha_cell hW i hi hc (by decide)) ((C.2.1.1.2 2 _ rfl).1 _ _) (fun q => by cases q) (by rw [arrV_size]; exact hin) (by rw [arrV_read _ _ (ha_lt hin)]; rfl) rfl rfl hdg kk
/-- aaload: of which of the three kinds by t (3, 4 or 5) -/
theorem ha_q {x : Int32} {n : Nat} {t ck : Nat} {C0 : String} (C : CB p s m args c meth cc own nL rt D cA z ac) (hW : HW D cA z ac E ad S H) (i : Nat) (hi : gD S i = true) (hc : kd i = ck) (h6 : 13 ≤ ck) (ht : (tyl cA)[t]? = some (cA ck, .object C0)) (hn : ln i = n) (hin : vp_in x n) (hdg : decode cc pc = .ok (.aaload, 1))
    (kk : W p l e R s m args below meth c H locs cells slots Q (F0 m (pc + 1) ls (va_re ad (gX S i x.toNatClampNeg) :: rest))) : W p l e R s m args below meth c H locs cells slots Q (F0 m pc ls (.int x :: .ref (ad i) :: rest)) := by
  subst hn
  refine W.aald (v := va_re ad (gX S i x.toNatClampNeg)) (ty := .object C0) C.1.1 C.1.2.1 (ha_cell hW i hi hc (by omega)) ((C.2.1.1.2 t _ ht).1 _ _) rfl (fun q => by cases q) (by rw [arrV_size]; exact hin) ?_ rfl rfl hdg kk
  rw [arrV_read _ _ (ha_lt hin)]
  have : vt ck x.toNatClampNeg = 2 := by unfold vt; rw [if_neg (by omega), if_neg (by omega), if_neg (by omega)]
  rw [this]
  rfl
theorem ha_r {x : Int32} {n j : Nat} {t ck : Nat} {C0 : String} (C : CB p s m args c meth cc own nL rt D cA z ac) (hW : HW D cA z ac E ad S H) (i : Nat) (hi : gD S i = true) (hc : kd i = ck) (h6 : 13 ≤ ck) (ht : (tyl cA)[t]? = some (cA ck, .object C0)) (hn : ln i = n) (hin : vp_in x n) (hj : gX S i x.toNatClampNeg = some j) (hdg : decode cc pc = .ok (.aaload, 1))
    (kk : W p l e R s m args below meth c H locs cells slots Q (F0 m (pc + 1) ls (.ref (ad j) :: rest))) : W p l e R s m args below meth c H locs cells slots Q (F0 m pc ls (.int x :: .ref (ad i) :: rest)) :=
  ha_q C hW i hi hc h6 ht hn hin hdg (by rw [hj]; exact kk)
theorem ha_set {H1 : Heap} {ck : Nat} {v : Value} {k : Nat} (hW : HW D cA z ac E ad S H) (i : Nat) (hi : gD S i = true) (hc : kd i = ck) (h6 : 6 ≤ ck) (hk : k < ln i) (h1 : one E S S1 i k) (hv : vOf ad S1 (vt ck k) i k = v) (e1 : H1[ad i]? = some ((arrV (cA ck) (ln i) (fun k => vOf ad S (vt ck k) i k)).setSlot k v)) (oq : ∀ q, q ≠ ad i → H1[q]? = H[q]?) : HW D cA z ac E ad S1 H1 := by
  subst hc
  refine hW.set hi h1 ⟨fun h => absurd h (by omega), fun _ => ?_⟩ oq
  rw [e1, arrV_store]
  congr 2
  funext j
  unfold updV
  by_cases ejk : j = k
  · rw [if_pos ejk, ejk, hv]
  · rw [if_neg ejk]
    exact (vOf_same (h1.2.1 i j (fun w => ejk w.2)) _).symm
theorem hs_i {x v : Int32} {n : Nat} (C : CB p s m args c meth cc own nL rt D cA z ac) (hW : HW D cA z ac E ad S H) (hS : va_S (zA z) s.heap H locs) (i : Nat) (hi : gD S i = true) (hc : kd i = 11) (hn : ln i = n) (hin : vp_in x n) (e1 : S1 = sF S i x.toNatClampNeg v) (hdg : decode cc pc = .ok (.iastore, 1))
    (kk : ∀ (H : Heap) (locs : List Loc), HW D cA z ac E ad S1 H → va_S (zA z) s.heap H locs → W p l e R s m args below meth c H locs cells slots Q (F0 m (pc + 1) ls rest)) : W p l e R s m args below meth c H locs cells slots Q (F0 m pc ls (.int v :: .int x :: .ref (ad i) :: rest)) := by
  subst hn; subst e1
  refine W.iast C.1.1 C.1.2.1 (ha_cell hW i hi hc (by decide)) ((C.2.1.1.2 1 _ rfl).1 _ _) (fun q => by cases q) (by rw [arrV_size]; exact hin) rfl rfl hdg fun H1 e z1 oq => ?_
  exact kk H1 _ (ha_set hW i hi hc (by decide) (ha_lt hin) (one_F hW hi v) (by show Value.int (gF _ _ _) = _; rw [sF_at]) e oq) (hS.put z1 oq (hW.2.2.1 i hi))
theorem hs_b {x v w : Int32} {n : Nat} (C : CB p s m args c meth cc own nL rt D cA z ac) (hW : HW D cA z ac E ad S H) (hS : va_S (zA z) s.heap H locs) (i : Nat) (hi : gD S i = true) (hc : kd i = 10) (hn : ln i = n) (hin : vp_in x n) (hw : w = v.toInt8.toInt32) (e1 : S1 = sF S i x.toNatClampNeg w) (hdg : decode cc pc = .ok (.bastore, 1))
    (kk : ∀ (H : Heap) (locs : List Loc), HW D cA z ac E ad S1 H → va_S (zA z) s.heap H locs → W p l e R s m args below meth c H locs cells slots Q (F0 m (pc + 1) ls rest)) : W p l e R s m args below meth c H locs cells slots Q (F0 m pc ls (.int v :: .int x :: .ref (ad i) :: rest)) := by
  subst hn; subst e1; subst hw
  refine W.bast C.1.1 C.1.2.1 (ha_cell hW i hi hc (by decide)) ((C.2.1.1.2 0 _ rfl).1 _ _) (fun q => by cases q) (by rw [arrV_size]; exact hin) rfl rfl hdg fun H1 e z1 oq => ?_
  exact kk H1 _ (ha_set hW i hi hc (by decide) (ha_lt hin) (one_F hW hi _) (by show Value.int (gF _ _ _) = _; rw [sF_at]; rfl) e oq) (hS.put z1 oq (hW.2.2.1 i hi))
theorem hs_l {x : Int32} {v : Int64} {n : Nat} (C : CB p s m args c meth cc own nL rt D cA z ac) (hW : HW D cA z ac E ad S H) (hS : va_S (zA z) s.heap H locs) (i : Nat) (hi : gD S i = true) (hc : kd i = 12) (hn : ln i = n) (hin : vp_in x n) (e1 : S1 = sL S i x.toNatClampNeg v) (hdg : decode cc pc = .ok (.lastore, 1))
    (kk : ∀ (H : Heap) (locs : List Loc), HW D cA z ac E ad S1 H → va_S (zA z) s.heap H locs → W p l e R s m args below meth c H locs cells slots Q (F0 m (pc + 1) ls rest)) : W p l e R s m args below meth c H locs cells slots Q (F0 m pc ls (.long v :: .int x :: .ref (ad i) :: rest)) := by
  subst hn; subst e1
  refine W.last C.1.1 C.1.2.1 (ha_cell hW i hi hc (by decide)) ((C.2.1.1.2 2 _ rfl).1 _ _) (fun q => by cases q) (by rw [arrV_size]; exact hin) rfl rfl hdg fun H1 e z1 oq => ?_
  exact kk H1 _ (ha_set hW i hi hc (by decide) (ha_lt hin) (one_L hW hi v) (by show Value.long (gL _ _ _) = _; rw [sL_at]) e oq) (hS.put z1 oq (hW.2.2.1 i hi))
theorem hs_r {x : Int32} {n j t ck ci : Nat} {q : vw_C} (C : CB p s m args c meth cc own nL rt D cA z ac) (hW : HW D cA z ac E ad S H) (hS : va_S (zA z) s.heap H locs) (i : Nat) (hi : gD S i = true) (hc : kd i = ck) (h6 : 13 ≤ ck) (ht : (tyl cA)[t]? = some (cA ck, .object q.1)) (hn : ln i = n) (hin : vp_in x n) (hj : gD S j = true) (hcj : kd j = ci) (hq : cls[ci]? = some q) (hE : E.2 i x.toNatClampNeg = none) (e1 : S1 = sX S i x.toNatClampNeg (some j)) (hdg : decode cc pc = .ok (.aastore, 1))
    (kk : ∀ (H : Heap) (locs : List Loc), HW D cA z ac E ad S1 H → va_S (zA z) s.heap H locs → W p l e R s m args below meth c H locs cells slots Q (F0 m (pc + 1) ls rest)) : W p l e R s m args below meth c H locs cells slots Q (F0 m pc ls (.ref (ad j) :: .int x :: .ref (ad i) :: rest)) := by
  subst hn; subst e1
  obtain ⟨hin6, -, -, -, hlt6⟩ := cb_cls ci hq
  have h0 : ¬ x < 0 := fun w => hin (Or.inl w)
  subst hcj
  obtain ⟨cellV, g1, g2, g3, -⟩ := (hW.1 j hj).1 hlt6
  have hcls := (C.2.1.1.1 _ _ hq).2
  obtain ⟨kA, comp, k1, k2, k3, -⟩ := (C.2.1.1.2 t _ ht).2
  have hcomp : comp = D.1 (kd j) := Option.some.inj (k3.symm.trans hcls.1)
  subst hcomp
  obtain ⟨kC, hkC, -⟩ := hcls.2
  refine W.aast C.1.1 C.1.2.1 (ha_cell hW i hi hc (by omega)) (fun q h => by cases h) (fun h => by cases h) k1 k2 rfl hkC ⟨h0, by rw [arrV_size]; exact ha_lt hin⟩ g1 (fun q h => by rw [g3] at h; cases h) (by rw [g2]; exact hkC) (by rw [g2]; exact va_assign hcls) rfl rfl hdg fun H1 e z1 oq => ?_
  have hvt : vt ck x.toNatClampNeg = 2 := by unfold vt; rw [if_neg (by omega), if_neg (by omega), if_neg (by omega)]
  exact kk H1 _ (ha_set hW i hi hc (by omega) (ha_lt hin) (one_X (some j) (fun y hy => by cases hy; exact Or.inl hj) hE) (by rw [hvt]; show va_re ad (gX _ _ _) = _; rw [sX_at]; rfl) e oq) (hS.put z1 oq (hW.2.2.1 i hi))
-- constants
theorem hc_s {index i : Nat} {q : String × Nat × String} (C : CB p s m args c meth cc own nL rt D cA z ac) (hW : HW D cA z ac E ad S H) (hq : st_T[i]? = some q) (h58 : i < 58) (ho : q.1 = own) (hx : q.2.1 = index) (hdg : decode cc pc = .ok (.ldc index, 2))
    (kk : W p l e R s m args below meth c H locs cells slots Q (F0 m (pc + 2) ls (.ref (ad (300 + i)) :: rest))) : W p l e R s m args below meth c H locs cells slots Q (F0 m pc ls rest) := by
  subst ho; subst hx
  refine va_ldcS C.1.1 C.1.2.1 C.1.2.2.2.1 ((C.2.1.2.2.1 i q hq).1) hdg ?_
  rw [← hW.cst (300 + i) (by omega) (by omega)]
  exact kk
theorem hc_so {index i : Nat} (C : CB p s m args c meth cc own nL rt D cA z ac) (hW : HW D cA z ac E ad S H) (hS : va_S (zA z) s.heap H locs) (h6 : i < 6) (hl : Cond.fieldLink own index "TwoLevelParser$Sort" (so_N.getD i "") "LTwoLevelParser$Sort;" ∈ lw_g) (hdg : decode cc pc = .ok (.getstatic index, 3))
    (kk : W p l e R s m args below meth c H locs cells slots Q (F0 m (pc + 3) ls (.ref (ad (500 + i)) :: rest))) : W p l e R s m args below meth c H locs cells slots Q (F0 m pc ls rest) := by
  refine va_gets C.1.1 C.1.2.1 ((C.2.1.2.2.2.1.1 i h6).1) hS C.1.2.2.2.1 (C.1.2.2.2.2 _ hl) (fun _ h => h) hdg ?_
  dsimp only
  rw [← hW.cst (500 + i) (by omega) (by omega)]
  exact kk
theorem so_inj (C : CB p s m args c meth cc own nL rt D cA z ac) (hW : HW D cA z ac E ad S H) {a b : Nat} (ha : 500 ≤ a ∧ a < 506) (hb : 500 ≤ b ∧ b < 506) (h : ad a = ad b) : a = b := by
  rw [hW.cst a (by omega) (by omega), hW.cst b (by omega) (by omega)] at h
  have := C.2.1.2.2.2.1.2 (a - 500) (b - 500) (by show a - 500 < 6; omega) (by show b - 500 < 6; omega) (by
    show ac (500 + (a - 500)) = ac (500 + (b - 500))
    rw [show 500 + (a - 500) = a by omega, show 500 + (b - 500) = b by omega]
    exact h)
  omega
theorem hj_ne {a b tgt : Nat} {off : Int} (C : CB p s m args c meth cc own nL rt D cA z ac) (hW : HW D cA z ac E ad S H) (ha : 500 ≤ a ∧ a < 506) (hb : 500 ≤ b ∧ b < 506) (hdg : decode cc pc = .ok (.if_acmp .ne off, 3)) (ht : (pc : Int) + off = (tgt : Int))
    (kf : a = b → W p l e R s m args below meth c H locs cells slots Q (F0 m (pc + 3) ls rest)) (kt : ¬ a = b → W p l e R s m args below meth c H locs cells slots Q (F0 m tgt ls rest)) : W p l e R s m args below meth c H locs cells slots Q (F0 m pc ls (.ref (ad b) :: .ref (ad a) :: rest)) :=
  lv_acmp_ne (rx := some (ad a)) (ry := some (ad b)) C.1.1 C.1.2.1 hdg ht (fun h => kt (fun q => h (by rw [q]))) (fun h => kf (so_inj C hW ha hb (Option.some.inj h)))
theorem hj_eq {a b tgt : Nat} {off : Int} (C : CB p s m args c meth cc own nL rt D cA z ac) (hW : HW D cA z ac E ad S H) (ha : 500 ≤ a ∧ a < 506) (hb : 500 ≤ b ∧ b < 506) (hdg : decode cc pc = .ok (.if_acmp .eq off, 3)) (ht : (pc : Int) + off = (tgt : Int))
    (kt : a = b → W p l e R s m args below meth c H locs cells slots Q (F0 m tgt ls rest)) (kf : ¬ a = b → W p l e R s m args below meth c H locs cells slots Q (F0 m (pc + 3) ls rest)) : W p l e R s m args below meth c H locs cells slots Q (F0 m pc ls (.ref (ad b) :: .ref (ad a) :: rest)) :=
  lv_acmp_eq (rx := some (ad a)) (ry := some (ad b)) C.1.1 C.1.2.1 hdg ht (fun h => kt (so_inj C hW ha hb (Option.some.inj h))) (fun h => kf (fun q => h (by rw [q])))
/-- ifnonnull on what may be null -/
theorem hj_nn {x : Option Nat} {tgt : Nat} {off : Int} (C : CB p s m args c meth cc own nL rt D cA z ac) (hdg : decode cc pc = .ok (.ifnonnull off, 3)) (ht : (pc : Int) + off = (tgt : Int))
    (kf : x = none → W p l e R s m args below meth c H locs cells slots Q (F0 m (pc + 3) ls rest)) (kt : ¬ x = none → W p l e R s m args below meth c H locs cells slots Q (F0 m tgt ls rest)) : W p l e R s m args below meth c H locs cells slots Q (F0 m pc ls (va_re ad x :: rest)) := by
  cases x with
  | none => exact lv_ifnonnullN C.1.1 C.1.2.1 hdg (kf rfl)
  | some y => exact lv_ifnonnull C.1.1 C.1.2.1 hdg ht (kt (fun h => by cases h))
-- stores into the frame, with a name for the value
theorem lt_i {i : Nat} {x y : Int32} {lv lv' : List (Nat × Value)} (C : CB p s m args c meth cc own nL rt D cA z ac) (hdg : decode cc pc = .ok (.istore i, 2)) (h : lv_has ls nL lv) (hn : i < nL) (ey : y = x) (hl : (i, Value.int y) :: lv.filter (fun q => !(q.1 == i) && !(q.1 + 1 == i && q.2.category == 2)) = lv')
    (kk : ∀ ls : Array Slot, lv_has ls nL lv' → W p l e R s m args below meth c H locs cells slots Q (F0 m (pc + 2) ls rest)) : W p l e R s m args below meth c H locs cells slots Q (F0 m pc ls (.int x :: rest)) := by subst ey; exact lv_istore C.1.1 C.1.2.1 hdg h hn hl kk
theorem lt_i_n {k : Fin 4} {i : Nat} {x y : Int32} {lv lv' : List (Nat × Value)} (C : CB p s m args c meth cc own nL rt D cA z ac) (hdg : decode cc pc = .ok (.istore_n k, 1)) (hi : (k : Nat) = i) (h : lv_has ls nL lv) (hn : i < nL) (ey : y = x) (hl : (i, Value.int y) :: lv.filter (fun q => !(q.1 == i) && !(q.1 + 1 == i && q.2.category == 2)) = lv')
    (kk : ∀ ls : Array Slot, lv_has ls nL lv' → W p l e R s m args below meth c H locs cells slots Q (F0 m (pc + 1) ls rest)) : W p l e R s m args below meth c H locs cells slots Q (F0 m pc ls (.int x :: rest)) := by subst ey; exact lv_istore_n C.1.1 C.1.2.1 hdg hi h hn hl kk
theorem lt_l {i : Nat} {x y : Int64} {lv lv' : List (Nat × Value)} (C : CB p s m args c meth cc own nL rt D cA z ac) (hdg : decode cc pc = .ok (.lstore i, 2)) (h : lv_has ls nL lv) (hn : i + 1 < nL) (ey : y = x) (hl : (i, Value.long y) :: lv.filter (fun q => !(q.1 == i) && (!(q.1 == i + 1) && !(q.1 + 1 == i && q.2.category == 2))) = lv')
    (kk : ∀ ls : Array Slot, lv_has ls nL lv' → W p l e R s m args below meth c H locs cells slots Q (F0 m (pc + 2) ls rest)) : W p l e R s m args below meth c H locs cells slots Q (F0 m pc ls (.long x :: rest)) := by subst ey; exact lv_lstore C.1.1 C.1.2.1 hdg h hn hl kk
theorem lt_l_n {k : Fin 4} {i : Nat} {x y : Int64} {lv lv' : List (Nat × Value)} (C : CB p s m args c meth cc own nL rt D cA z ac) (hdg : decode cc pc = .ok (.lstore_n k, 1)) (hi : (k : Nat) = i) (h : lv_has ls nL lv) (hn : i + 1 < nL) (ey : y = x) (hl : (i, Value.long y) :: lv.filter (fun q => !(q.1 == i) && (!(q.1 == i + 1) && !(q.1 + 1 == i && q.2.category == 2))) = lv')
    (kk : ∀ ls : Array Slot, lv_has ls nL lv' → W p l e R s m args below meth c H locs cells slots Q (F0 m (pc + 1) ls rest)) : W p l e R s m args below meth c H locs cells slots Q (F0 m pc ls (.long x :: rest)) := by subst ey; exact lv_lstore_n C.1.1 C.1.2.1 hdg hi h hn hl kk
-- ends
theorem QN.mk {v : Option Value} {t : State} (hW : HW D cA z ac E ad S H) (hS : va_S (zA z) s.heap H locs) (ht : t.heap = H) : QN D cA z ac E ad v S args s (.returned v) t :=
  ⟨rfl, by rw [ht]; exact hW, by rw [ht]; exact hS.1, fun q h1 h2 => by rw [ht]; exact hS.2.1 q h1 h2⟩
theorem he_v {d : Nat} (C : CB p s m args c meth cc own nL none D cA z ac) (hW : HW D cA z ac E ad S H) (hS : va_S (zA z) s.heap H locs) (hdg : decode cc pc = .ok (.return_, 1)) : GW p l e d s m args below meth c D cA z ac E ad none S H locs (F0 m pc ls []) :=
  W.vret C.1.1 C.1.2.1 C.2.2.1 (fun t ht _ => QN.mk hW hS ht) hS.2.2 hdg C.2.2.2
theorem he_i {d : Nat} {v : Int32} (C : CB p s m args c meth cc own nL (some .int) D cA z ac) (hW : HW D cA z ac E ad S H) (hS : va_S (zA z) s.heap H locs) (hdg : decode cc pc = .ok (.ireturn, 1)) : GW p l e d s m args below meth c D cA z ac E ad (some (.int v)) S H locs (F0 m pc ls [.int v]) :=
  W.iret C.1.1 C.1.2.1 C.2.2.1 (fun t ht _ => QN.mk hW hS ht) hS.2.2 hdg C.2.2.2
theorem he_z {d : Nat} {v : Int32} (C : CB p s m args c meth cc own nL (some .boolean) D cA z ac) (hW : HW D cA z ac E ad S H) (hS : va_S (zA z) s.heap H locs) (hb : v = 0 ∨ v = 1) (hdg : decode cc pc = .ok (.ireturn, 1)) : GW p l e d s m args below meth c D cA z ac E ad (some (.int v)) S H locs (F0 m pc ls [.int v]) :=
  W.zret C.1.1 C.1.2.1 C.2.2.1 (by rcases hb with rfl | rfl <;> rfl) (fun t ht _ => QN.mk hW hS ht) hS.2.2 hdg C.2.2.2
theorem he_l {d : Nat} {v : Int64} (C : CB p s m args c meth cc own nL (some .long) D cA z ac) (hW : HW D cA z ac E ad S H) (hS : va_S (zA z) s.heap H locs) (hdg : decode cc pc = .ok (.lreturn, 1)) : GW p l e d s m args below meth c D cA z ac E ad (some (.long v)) S H locs (F0 m pc ls [.long v]) :=
  W.lret C.1.1 C.1.2.1 C.2.2.1 (fun t ht _ => QN.mk hW hS ht) hS.2.2 hdg C.2.2.2
theorem he_r {d j : Nat} {C0 : String} (C : CB p s m args c meth cc own nL (some (.object C0)) D cA z ac) (hW : HW D cA z ac E ad S H) (hS : va_S (zA z) s.heap H locs) (hdg : decode cc pc = .ok (.areturn, 1)) : GW p l e d s m args below meth c D cA z ac E ad (some (.ref (ad j))) S H locs (F0 m pc ls [.ref (ad j)]) :=
  W.aret C.1.1 C.1.2.1 C.2.2.1 (Or.inl ⟨_, rfl⟩) (Or.inr ⟨_, rfl⟩) (fun t ht _ => QN.mk hW hS ht) hS.2.2 hdg C.2.2.2
-- calls of methods that make nothing
theorem hx_run {st0 : List Value} {v : Option Value} {a : Array Value} (hr : va_Run p l e R s m args below meth c H locs cells slots 0 0 (F0 m pc ls st0) rest (QN D cA z ac E ad v S1 a) (zA z)) (hS : va_S (zA z) s.heap H locs)
    (kk : ∀ (H : Heap) (locs : List Loc), HW D cA z ac E ad S1 H → va_S (zA z) s.heap H locs → W p l e R s m args below meth c H locs cells slots Q (F0 m (pc + 3) ls (v.toList ++ rest))) : W p l e R s m args below meth c H locs cells slots Q (F0 m pc ls st0) := by
  intro T hT X
  obtain ⟨v', st₀, t, T', L, h0, X', hL, e1, e2, ⟨hv, hW1, hz, hk⟩, st⟩ := hr T hT X
  cases hv
  rw [h0] at hz hk
  obtain ⟨t2, a1, b1⟩ := kk T'.heap (locs ++ L) (by rw [e1]; exact hW1) ⟨Nat.le_trans hS.1 (by rw [e1]; exact hz), fun q h1 h2 => by rw [e1, hk q (Nat.lt_of_lt_of_le h1 hS.1) h2]; exact hS.2.1 q h1 h2, fun q hq => by
      rcases List.mem_append.mp hq with h | h
      · exact hS.2.2 q h
      · exact hL q h⟩ T' rfl X'
  exact ⟨t2, st t2 a1, b1⟩
theorem KK.at {U : State} (h : KK D cA z ac s) (hS : va_S (zA z) s.heap H locs) (hU : U.heap = H) (hW : s.WarmedH U.vm) : KK D cA z ac U := h.go hW (fun a h1 h2 => by rw [hU]; exact hS.2.1 a h1 h2)
theorem hx_good {y : MethodName} {bs : ByteArray} {maxL : Nat} {ret : Option FieldType} (hw : Cond.code y bs maxL ret ∈ lw_g) : GoodIn lw_g (Cond.code y bs maxL ret :: lw_g) := lw_good (fun w h => by
  rcases List.mem_cons.mp h with rfl | h
  · exact hw
  · exact h)
/-- invokevirtual on a cell of the world -/
theorem hx_V {y : MethodName} {bs : ByteArray} {maxL idx n d i ci : Nat} {ret : Option FieldType} {v : Option Value} {q : vw_C} {As st0 : List Value} (C : CB p s m args c meth cc own nL rt D cA z ac) (hW : HW D cA z ac E ad S H) (hS : va_S (zA z) s.heap H locs)
    (hM : Met l y (Cond.code y bs maxL ret :: lw_g) (rmD d 0 0) (PcH D cA z ac E ad (.ref (ad i) :: As) S) (QN D cA z ac E ad v S1) 0 0 (zA z))
    (hl : Cond.methodLink own idx y ∈ lw_g) (hv : Cond.instanceMethod y ∈ lw_g) (he : Cond.selects y.cls y y ∈ lw_g) (hn : Cond.initialized y.cls ∈ lw_g) (hw : Cond.code y bs maxL ret ∈ lw_g) (hd : y.cls ≠ "java/lang/invoke/MethodHandle" ∧ y.cls ≠ "java/lang/invoke/VarHandle" ∧ (parseMethodDescriptor y.desc).map (fun d => d.parameters.length) = some n)
    (hi : gD S i = true) (hc : kd i = ci) (hq : cls[ci]? = some q) (hy : q.1 = y.cls) (hR : d + 1 ≤ R.frames ∧ 8 + (maxL + 11) + 31 * d ≤ R.locals) (hcs : cells ≤ R.cells ∧ slots ≤ R.slots) (hAs : As.length = n) (hsz : ls.size = nL) (hst : st0 = As.reverse ++ .ref (ad i) :: rest) (hrm : (rest.map fun v => v.category).sum ≤ 8) (hdg : decode cc pc = .ok (.invokevirtual idx, 3))
    (kk : ∀ (H : Heap) (locs : List Loc), HW D cA z ac E ad S1 H → va_S (zA z) s.heap H locs → W p l e R s m args below meth c H locs cells slots Q (F0 m (pc + 3) ls (v.toList ++ rest))) : W p l e R s m args below meth c H locs cells slots Q (F0 m pc ls st0) := by
  obtain ⟨hF, hK, hr, hlo⟩ := C
  have hts := hF.2.2.2.2
  obtain ⟨-, -, -, -, hlt⟩ := cb_cls ci hq
  refine hx_run (va_runV (C := y.cls) (b := ad i) (As := As) (rest := rest) hF hM ⟨callB_of n hts (hx_good hw) rfl rfl rfl (hts _ hn) (hts _ hl) hd hR, hts _ hv, hts _ he⟩ ⟨PcH.blind, ?_, fun U hU hWU => ⟨rfl, by rw [hU]; exact hW, hK.at hS hU hWU⟩⟩ rfl hAs hsz hst (by simpa using hrm) hdg hcs) hS kk
  subst hc
  obtain ⟨cell, q1, q2, q3, -⟩ := (hW.1 i hi).1 hlt
  exact ⟨cell, q1, by rw [q3]; rfl, by rw [q2, ← hy]; exact (hK.1.1 _ _ hq).2.1⟩
/-- invokevirtual on a text -/
theorem hx_T {y : MethodName} {bs : ByteArray} {maxL idx n d i : Nat} {ret : Option FieldType} {v : Option Value} {q : String × Nat × String} {As st0 : List Value} (C : CB p s m args c meth cc own nL rt D cA z ac) (hW : HW D cA z ac E ad S H) (hS : va_S (zA z) s.heap H locs)
    (hM : Met l y (Cond.code y bs maxL ret :: lw_g) (rmD d 0 0) (PcH D cA z ac E ad (.ref (ad (300 + i)) :: As) S) (QN D cA z ac E ad v S1) 0 0 (zA z))
    (hl : Cond.methodLink own idx y ∈ lw_g) (hv : Cond.instanceMethod y ∈ lw_g) (he : Cond.selects y.cls y y ∈ lw_g) (hn : Cond.initialized y.cls ∈ lw_g) (hw : Cond.code y bs maxL ret ∈ lw_g) (hd : y.cls ≠ "java/lang/invoke/MethodHandle" ∧ y.cls ≠ "java/lang/invoke/VarHandle" ∧ (parseMethodDescriptor y.desc).map (fun d => d.parameters.length) = some n)
    (hq : st_T[i]? = some q) (h58 : i < 58) (hy : y.cls = "java/lang/String") (hR : d + 1 ≤ R.frames ∧ 8 + (maxL + 11) + 31 * d ≤ R.locals) (hcs : cells ≤ R.cells ∧ slots ≤ R.slots) (hAs : As.length = n) (hsz : ls.size = nL) (hst : st0 = As.reverse ++ .ref (ad (300 + i)) :: rest) (hrm : (rest.map fun v => v.category).sum ≤ 8) (hdg : decode cc pc = .ok (.invokevirtual idx, 3))
    (kk : ∀ (H : Heap) (locs : List Loc), HW D cA z ac E ad S1 H → va_S (zA z) s.heap H locs → W p l e R s m args below meth c H locs cells slots Q (F0 m (pc + 3) ls (v.toList ++ rest))) : W p l e R s m args below meth c H locs cells slots Q (F0 m pc ls st0) := by
  obtain ⟨hF, hK, hr, hlo⟩ := C
  have hts := hF.2.2.2.2
  refine hx_run (va_runV (C := y.cls) (b := ad (300 + i)) (As := As) (rest := rest) hF hM ⟨callB_of n hts (hx_good hw) rfl rfl rfl (hts _ hn) (hts _ hl) hd hR, hts _ hv, hts _ he⟩ ⟨PcH.blind, ?_, fun U hU hWU => ⟨rfl, by rw [hU]; exact hW, hK.at hS hU hWU⟩⟩ rfl hAs hsz hst (by simpa using hrm) hdg hcs) hS kk
  obtain ⟨cell, h1, h2, h3, -⟩ := (hK.2.2.1 i q hq).2.1.kept hS.2.1
  exact ⟨cell, by rw [hW.cst (300 + i) (by omega) (by omega)]; exact h1, h2, by rw [hy]; exact h3⟩
theorem hx_S {y : MethodName} {bs : ByteArray} {maxL idx n d : Nat} {ret : Option FieldType} {v : Option Value} {As st0 : List Value} (C : CB p s m args c meth cc own nL rt D cA z ac) (hW : HW D cA z ac E ad S H) (hS : va_S (zA z) s.heap H locs)
    (hM : Met l y (Cond.code y bs maxL ret :: lw_g) (rmD d 0 0) (PcH D cA z ac E ad As S) (QN D cA z ac E ad v S1) 0 0 (zA z))
    (hl : Cond.methodLink own idx y ∈ lw_g) (hv : Cond.static y ∈ lw_g) (hn : Cond.initialized y.cls ∈ lw_g) (hw : Cond.code y bs maxL ret ∈ lw_g) (hd : y.cls ≠ "java/lang/invoke/MethodHandle" ∧ y.cls ≠ "java/lang/invoke/VarHandle" ∧ (parseMethodDescriptor y.desc).map (fun d => d.parameters.length) = some n)
    (hR : d + 1 ≤ R.frames ∧ 8 + (maxL + 11) + 31 * d ≤ R.locals) (hcs : cells ≤ R.cells ∧ slots ≤ R.slots) (hAs : As.length = n) (hsz : ls.size = nL) (hst : st0 = As.reverse ++ rest) (hrm : (rest.map fun v => v.category).sum ≤ 8) (hdg : decode cc pc = .ok (.invokestatic idx, 3))
    (kk : ∀ (H : Heap) (locs : List Loc), HW D cA z ac E ad S1 H → va_S (zA z) s.heap H locs → W p l e R s m args below meth c H locs cells slots Q (F0 m (pc + 3) ls (v.toList ++ rest))) : W p l e R s m args below meth c H locs cells slots Q (F0 m pc ls st0) := by
  obtain ⟨hF, hK, hr, hlo⟩ := C
  have hts := hF.2.2.2.2
  exact hx_run (va_runS (As := As) (rest := rest) hF hM ⟨callB_of n hts (hx_good hw) rfl rfl rfl (hts _ hn) (hts _ hl) hd hR, hts _ hv⟩ ⟨PcH.blind, fun U hU hWU => ⟨rfl, by rw [hU]; exact hW, hK.at hS hU hWU⟩⟩ rfl hAs hsz hst (by simpa using hrm) hdg hcs) hS kk
/-- a contract out of the walk from its first instruction -/
theorem Met.ofH {y : MethodName} {maxL d : Nat} {ret : Option FieldType} {v : Option Value} {av : List Value} (hy : plainName y.cls = true) (hyo : y.cls = own) (hlen : (lg_sl av).length ≤ maxL)
    (body : ∀ (p : Program) (e : Env) (s : State) (m : MethodId) (args : Array Value) (below : List Frame) (meth : Method) (c : Code) (H : Heap) (ls : Array Slot), CB p s m args c meth cc own maxL ret D cA z ac → HW D cA z ac E ad S H → va_S (zA z) s.heap H [] → lv_has ls maxL (lv_args 0 av) → GW p l e d s m args below meth c D cA z ac E ad v S1 H [] (F0 m 0 ls [])) :
    Met l y (Cond.code y cc maxL ret :: lw_g) (rmD d 0 0) (PcH D cA z ac E ad av S) (QN D cA z ac E ad v S1) 0 0 (zA z) := by
  refine Met.ofW (cc := cc) (maxL := maxL) (ret := ret) hy rfl ?_
  intro p e s m args below meth c s₁ B hml hv
  obtain ⟨rfl, hW, hK⟩ := hv
  have hts := atoms_spec (ws := Cond.code y cc maxL ret :: lw_g) B.pre
  have hl := lv_entry av (n := maxL) hlen
  rw [lg_entry_eq]
  exact body p e s m _ below meth c s.heap _ ⟨⟨B.exec, B.bytes, hml, by rw [← hyo]; exact findClass_of_methodNamed B.named, fun w hw => hts w (List.mem_cons_of_mem _ hw)⟩, hK, B.returns, B.notSynchronized⟩ hW va_S.rf hl
end HR
