-- printed by gen/walk.py
def f_P_type_b41 (n : Nat) (x2 : Int32) (S : HS) : Option (Int32 × HS) :=
  ob (f_P_refuse S) fun S5 =>
  some (x2, S5)
def f_P_type_b48 (n : Nat) (x2 : Int32) (S : HS) : Option (Int32 × HS) :=
  (if (gF S 0 7) = 0 then
  ob (f_X_next n S) fun S6 =>
  some (x2, S6)
  else
  some (x2, S))
def f_P_type_b27 (n : Nat) (x1 : Int32) (y0 : Int32) (S : HS) : Option (Int32 × HS) :=
  lt y0 fun v4 =>
  (if v4 < 0 then
  f_P_type_b41 n v4 S
  else
  (if x1 = 0 then
  f_P_type_b48 n v4 S
  else
  (if v4 ≤ (1 : Int32) then
  f_P_type_b48 n v4 S
  else
  f_P_type_b41 n v4 S)))
def f_P_type (n : Nat) (x1 : Int32) (S : HS) : Option (Int32 × HS) :=
  ob (gX S 1 3) fun j1 =>
  gd (isSo j1 ∧ isSo 502) (if j1 = 502 then
  ob (f_P_typeOf n (gL S 1 5)) fun r3 =>
  f_P_type_b27 n x1 r3 S
  else
  f_P_type_b27 n x1 (-1 : Int32) S)
section WK
variable {p : Program} {l : Launch} {e : Env} {s : State} {m : MethodId} {args : Array Value} {below : List Frame} {meth : Method} {c : Code} {D : va_G} {cA : Nat → ClassId} {z : Nat} {ac : Nat → Nat} {ad : Nat → Nat}
set_option maxHeartbeats 4000000 in
set_option maxRecDepth 100000 in
theorem w_P_type_41 (C : CB p s m args c meth b_P_type "TwoLevelParser" 3 (some .int) D cA z ac) (n : Nat) {r : Int32} {S' : HS} (x2 : Int32) {S : HS} {H : Heap} {locs : List Loc} {ls : Array Slot} (h : f_P_type_b41 n x2 S = some (r, S')) (hW : HW D cA z ac E1 ad S H) (hS : va_S (zA z) s.heap H locs) (hl : lv_has ls 3 [(0, .ref (ad 0)), (2, .int (x2))]) : GW p l e 6 s m args below meth c D cA z ac E1 ad (some (.int r)) S' H locs (F0 m 41 ls []) := by
  obtain ⟨⟨hx, hb, hml, hown, hts⟩, hK, hr, hlo⟩ := id C
  unfold f_P_type_b41 at h
  refine lv_aload_n hx hb d_P_type_41 rfl (lv_at hl 0 rfl) ?_
  obtain ⟨S5, eS5, h⟩ := ob_some h
  refine hx_V (i := 0) (As := []) (rest := []) C hW hS (s_P_refuse eS5) km_P_169 kv_P_refuse ke_P_refuse kn_P kw_P_refuse kd_P_refuse (hW.fx 0 rfl) rfl q_P rfl ⟨by decide, by decide⟩ ⟨Nat.zero_le _, Nat.zero_le _⟩ rfl hl.1 rfl (Nat.le_of_ble_eq_true rfl) d_P_type_42 (fun H locs hW hS => ?_)
  refine lv_goto (tgt := 62) hx hb d_P_type_45 (by decide) ?_
  refine lv_iload_n hx hb d_P_type_62 rfl (lv_at hl 1 rfl) ?_
  obtain ⟨hr1, hr2⟩ := Prod.mk.inj (Option.some.inj h)
  subst hr1
  subst hr2
  exact he_i C hW hS d_P_type_63
set_option maxHeartbeats 4000000 in
set_option maxRecDepth 100000 in
theorem w_P_type_48 (C : CB p s m args c meth b_P_type "TwoLevelParser" 3 (some .int) D cA z ac) (n : Nat) {r : Int32} {S' : HS} (x2 : Int32) {S : HS} {H : Heap} {locs : List Loc} {ls : Array Slot} (h : f_P_type_b48 n x2 S = some (r, S')) (hW : HW D cA z ac E1 ad S H) (hS : va_S (zA z) s.heap H locs) (hl : lv_has ls 3 [(0, .ref (ad 0)), (2, .int (x2))]) : GW p l e 6 s m args below meth c D cA z ac E1 ad (some (.int r)) S' H locs (F0 m 48 ls []) := by
  obtain ⟨⟨hx, hb, hml, hown, hts⟩, hK, hr, hlo⟩ := id C
  unfold f_P_type_b48 at h
  refine lv_aload_n hx hb d_P_type_48 rfl (lv_at hl 0 rfl) ?_
  refine hg_i C hW 0 7 (hW.fx 0 rfl) rfl q_P (by decide) rfl (lkF C kf_P_146) d_P_type_49 ?_
  refine lv_if_ne (tgt := 62) hx hb d_P_type_52 (by decide) (fun c52 => ?_) (fun c52 => ?_)
  · have h := ite_f c52 h
    refine lv_iload_n hx hb d_P_type_62 rfl (lv_at hl 1 rfl) ?_
    obtain ⟨hr1, hr2⟩ := Prod.mk.inj (Option.some.inj h)
    subst hr1
    subst hr2
    exact he_i C hW hS d_P_type_63
  · have h := ite_t c52 h
    refine lv_aload_n hx hb d_P_type_55 rfl (lv_at hl 0 rfl) ?_
    refine hg_r (j := 1) C hW 0 0 (hW.fx 0 rfl) rfl q_P (by decide) rfl (hW.fn (E := E1) (i := 0) (k := 0) rfl) (lkF C kf_P_112) d_P_type_56 ?_
    obtain ⟨S6, eS6, h⟩ := ob_some h
    refine hx_V (i := 1) (As := []) (rest := []) C hW hS (s_X_next n eS6) km_P_172 kv_X_next ke_X_next kn_X kw_X_next kd_X_next (hW.fx 1 rfl) rfl q_X rfl ⟨by decide, by decide⟩ ⟨Nat.zero_le _, Nat.zero_le _⟩ rfl hl.1 rfl (Nat.le_of_ble_eq_true rfl) d_P_type_59 (fun H locs hW hS => ?_)
    refine lv_iload_n hx hb d_P_type_62 rfl (lv_at hl 1 rfl) ?_
    obtain ⟨hr1, hr2⟩ := Prod.mk.inj (Option.some.inj h)
    subst hr1
    subst hr2
    exact he_i C hW hS d_P_type_63
set_option maxHeartbeats 4000000 in
set_option maxRecDepth 100000 in
theorem w_P_type_27 (C : CB p s m args c meth b_P_type "TwoLevelParser" 3 (some .int) D cA z ac) (n : Nat) {r : Int32} {S' : HS} (x1 : Int32) (y0 : Int32) {S : HS} {H : Heap} {locs : List Loc} {ls : Array Slot} (h : f_P_type_b27 n x1 y0 S = some (r, S')) (hW : HW D cA z ac E1 ad S H) (hS : va_S (zA z) s.heap H locs) (hl : lv_has ls 3 [(0, .ref (ad 0)), (1, .int (x1))]) : GW p l e 6 s m args below meth c D cA z ac E1 ad (some (.int r)) S' H locs (F0 m 27 ls [.int (y0)]) := by
  obtain ⟨⟨hx, hb, hml, hown, hts⟩, hK, hr, hlo⟩ := id C
  unfold f_P_type_b27 at h
  obtain ⟨v4, ev4, h⟩ := lt_some h
  refine lt_i_n (lv' := [(2, .int (v4)), (0, .ref (ad 0)), (1, .int (x1))]) C d_P_type_27 rfl hl (by decide) ev4 rfl (fun ls hl => ?_)
  refine lv_iload_n hx hb d_P_type_28 rfl (lv_at hl 0 rfl) ?_
  refine lv_if_lt (tgt := 41) hx hb d_P_type_29 (by decide) (fun c29 => ?_) (fun c29 => ?_)
  · have h := ite_t c29 h
    exact w_P_type_41 C n v4 h hW hS (lv_sub hl [1, 0] rfl)
  · have h := ite_f c29 h
    refine lv_iload_n hx hb d_P_type_32 rfl (lv_at hl 2 rfl) ?_
    refine lv_if_eq (tgt := 48) hx hb d_P_type_33 (by decide) (fun c33 => ?_) (fun c33 => ?_)
    · have h := ite_t c33 h
      exact w_P_type_48 C n v4 h hW hS (lv_sub hl [1, 0] rfl)
    · have h := ite_f c33 h
      refine lv_iload_n hx hb d_P_type_36 rfl (lv_at hl 0 rfl) ?_
      refine lv_iconst (v := 1) hx hb d_P_type_37 (by decide) ?_
      refine lv_icmp_le (tgt := 48) hx hb d_P_type_38 (by decide) (fun c38 => ?_) (fun c38 => ?_)
      · have h := ite_t c38 h
        exact w_P_type_48 C n v4 h hW hS (lv_sub hl [1, 0] rfl)
      · have h := ite_f c38 h
        exact w_P_type_41 C n v4 h hW hS (lv_sub hl [1, 0] rfl)
set_option maxHeartbeats 4000000 in
set_option maxRecDepth 100000 in
theorem s_P_type (n : Nat) (x1 : Int32) {S : HS} {r : Int32} {S' : HS} (h : f_P_type n x1 S = some (r, S')) : Met l y_P_type (.code y_P_type b_P_type 3 (some .int) :: lw_g) (rmD 6 0 0) (PcH D cA z ac E1 ad [.ref (ad 0), .int (x1)] S) (QN D cA z ac E1 ad (some (.int r)) S') 0 0 (zA z) := by
  refine Met.ofH (own := "TwoLevelParser") (by decide) rfl (Nat.le_of_ble_eq_true rfl) ?_
  intro p e s m args below meth c H ls C hW hS hl
  have hl : lv_has ls 3 [(0, .ref (ad 0)), (1, .int (x1))] := hl
  obtain ⟨⟨hx, hb, hml, hown, hts⟩, hK, hr, hlo⟩ := id C
  unfold f_P_type at h
  refine lv_aload_n hx hb d_P_type_0 rfl (lv_at hl 0 rfl) ?_
  refine hg_r (j := 1) C hW 0 0 (hW.fx 0 rfl) rfl q_P (by decide) rfl (hW.fn (E := E1) (i := 0) (k := 0) rfl) (lkF C kf_P_112) d_P_type_1 ?_
  obtain ⟨j1, ej1, h⟩ := ob_some h
  refine hg_r (j := j1) C hW 1 3 (hW.fx 1 rfl) rfl q_X (by decide) rfl ej1 (lkN C kf_P_149) d_P_type_4 ?_
  refine hc_so (i := 2) C hW hS (by decide) kf_P_162 d_P_type_7 ?_
  obtain ⟨g2, h⟩ := gd_some h
  refine hj_ne (tgt := 26) C hW g2.1 g2.2 d_P_type_10 (by decide) (fun c10 => ?_) (fun c10 => ?_)
  · have h := ite_t c10 h
    refine lv_aload_n hx hb d_P_type_13 rfl (lv_at hl 0 rfl) ?_
    refine hg_r (j := 1) C hW 0 0 (hW.fx 0 rfl) rfl q_P (by decide) rfl (hW.fn (E := E1) (i := 0) (k := 0) rfl) (lkF C kf_P_112) d_P_type_14 ?_
    refine hg_l C hW 1 5 (hW.fx 1 rfl) rfl q_X (by decide) rfl (lkN C kf_P_165) d_P_type_17 ?_
    obtain ⟨r3, er3, h⟩ := ob_some h
    refine hx_S (As := [.long ((gL S 1 5))]) (rest := []) C hW hS (s_P_typeOf n (gL S 1 5) er3) km_P_95 kv_P_typeOf kn_P kw_P_typeOf kd_P_typeOf ⟨by decide, by decide⟩ ⟨Nat.zero_le _, Nat.zero_le _⟩ rfl hl.1 rfl (Nat.le_of_ble_eq_true rfl) d_P_type_20 (fun H locs hW hS => ?_)
    refine lv_goto (tgt := 27) hx hb d_P_type_23 (by decide) ?_
    exact w_P_type_27 C n x1 r3 h hW hS (lv_sub hl [0, 1] rfl)
  · have h := ite_f c10 h
    refine lv_iconst (v := -1) hx hb d_P_type_26 (by decide) ?_
    exact w_P_type_27 C n x1 (-1 : Int32) h hW hS (lv_sub hl [0, 1] rfl)
end WK
def f_P_isDefined_b38 (n : Nat) (kc : Int64 → Int32 → Int32 → HS → Option Int32) (x1 : Int64) (x4 : Int32) (y0 : Int32) (S : HS) : Option Int32 :=
  lt y0 fun v6 =>
  lt (x4 + 1) fun v7 =>
  kc x1 v6 v7 S
def f_P_isDefined_b33 (n : Nat) (kc : Int64 → Int32 → Int32 → HS → Option Int32) (x1 : Int64) (x4 : Int32) (S : HS) : Option Int32 :=
  f_P_isDefined_b38 n kc x1 x4 (1 : Int32) S
def f_P_isDefined_b5B (n : Nat) (kc : Int64 → Int32 → Int32 → HS → Option Int32) (x1 : Int64) (x3 : Int32) (x4 : Int32) (S : HS) : Option Int32 :=
  (if (gF S 0 4) ≤ x4 then
  gd (x3 = 0 ∨ x3 = 1) <|
  some x3
  else
  (if x3 = 0 then
  gd (inR x4 64) <|
  gd (kd (6 + 3 * x4.toNatClampNeg) = 2 ∧ gD S (6 + 3 * x4.toNatClampNeg) = true) <|
  (if (lg_cmp (gL S (6 + 3 * x4.toNatClampNeg) 4) x1) = 0 then
  f_P_isDefined_b33 n kc x1 x4 S
  else
  f_P_isDefined_b38 n kc x1 x4 (0 : Int32) S)
  else
  f_P_isDefined_b33 n kc x1 x4 S))
def f_P_isDefined_b5 (n : Nat) (k : Nat) : Int64 → Int32 → Int32 → HS → Option Int32 := lpF (fun _ _ _ _ => none) (f_P_isDefined_b5B n) k
def f_P_isDefined (n : Nat) (x1 : Int64) (S : HS) : Option Int32 :=
  lt (0 : Int32) fun v1 =>
  lt (0 : Int32) fun v2 =>
  f_P_isDefined_b5 n n x1 v1 v2 S
section WK
variable {p : Program} {l : Launch} {e : Env} {s : State} {m : MethodId} {args : Array Value} {below : List Frame} {meth : Method} {c : Code} {D : va_G} {cA : Nat → ClassId} {z : Nat} {ac : Nat → Nat} {ad : Nat → Nat}
set_option maxHeartbeats 4000000 in
set_option maxRecDepth 100000 in
theorem w_P_isDefined_38 (C : CB p s m args c meth b_P_isDefined "TwoLevelParser" 5 (some .boolean) D cA z ac) (n : Nat) (kc : Int64 → Int32 → Int32 → HS → Option Int32) {r : Int32} (hk : ∀ (x1 : Int64) (x3 : Int32) (x4 : Int32) (S : HS) {H : Heap} {locs : List Loc} {ls : Array Slot}, kc x1 x3 x4 S = some r → HW D cA z ac E1 ad S H → va_S (zA z) s.heap H locs → lv_has ls 5 [(0, .ref (ad 0)), (1, .long (x1)), (3, .int (x3)), (4, .int (x4))] → GW p l e 0 s m args below meth c D cA z ac E1 ad (some (.int r)) S H locs (F0 m 5 ls [])) (x1 : Int64) (x4 : Int32) (y0 : Int32) {S : HS} {H : Heap} {locs : List Loc} {ls : Array Slot} (h : f_P_isDefined_b38 n kc x1 x4 y0 S = some r) (hW : HW D cA z ac E1 ad S H) (hS : va_S (zA z) s.heap H locs) (hl : lv_has ls 5 [(0, .ref (ad 0)), (1, .long (x1)), (4, .int (x4))]) : GW p l e 0 s m args below meth c D cA z ac E1 ad (some (.int r)) S H locs (F0 m 38 ls [.int (y0)]) := by
  obtain ⟨⟨hx, hb, hml, hown, hts⟩, hK, hr, hlo⟩ := id C
  unfold f_P_isDefined_b38 at h
  obtain ⟨v6, ev6, h⟩ := lt_some h
  refine lt_i_n (lv' := [(3, .int (v6)), (0, .ref (ad 0)), (1, .long (x1)), (4, .int (x4))]) C d_P_isDefined_38 rfl hl (by decide) ev6 rfl (fun ls hl => ?_)
  obtain ⟨v7, ev7, h⟩ := lt_some h
  refine lv_iinc (v := v7) (lv' := [(4, .int (v7)), (3, .int (v6)), (0, .ref (ad 0)), (1, .long (x1))]) hx hb d_P_isDefined_39 hl (k := 3) rfl (by rw [ev7]; rfl) (by decide) rfl (fun ls hl => ?_)
  refine lv_goto (tgt := 5) hx hb d_P_isDefined_42 (by decide) ?_
  exact hk _ _ _ _ h hW hS (lv_sub hl [2, 3, 1, 0] rfl)
set_option maxHeartbeats 4000000 in
set_option maxRecDepth 100000 in
theorem w_P_isDefined_33 (C : CB p s m args c meth b_P_isDefined "TwoLevelParser" 5 (some .boolean) D cA z ac) (n : Nat) (kc : Int64 → Int32 → Int32 → HS → Option Int32) {r : Int32} (hk : ∀ (x1 : Int64) (x3 : Int32) (x4 : Int32) (S : HS) {H : Heap} {locs : List Loc} {ls : Array Slot}, kc x1 x3 x4 S = some r → HW D cA z ac E1 ad S H → va_S (zA z) s.heap H locs → lv_has ls 5 [(0, .ref (ad 0)), (1, .long (x1)), (3, .int (x3)), (4, .int (x4))] → GW p l e 0 s m args below meth c D cA z ac E1 ad (some (.int r)) S H locs (F0 m 5 ls [])) (x1 : Int64) (x4 : Int32) {S : HS} {H : Heap} {locs : List Loc} {ls : Array Slot} (h : f_P_isDefined_b33 n kc x1 x4 S = some r) (hW : HW D cA z ac E1 ad S H) (hS : va_S (zA z) s.heap H locs) (hl : lv_has ls 5 [(0, .ref (ad 0)), (1, .long (x1)), (4, .int (x4))]) : GW p l e 0 s m args below meth c D cA z ac E1 ad (some (.int r)) S H locs (F0 m 33 ls []) := by
  obtain ⟨⟨hx, hb, hml, hown, hts⟩, hK, hr, hlo⟩ := id C
  unfold f_P_isDefined_b33 at h
  refine lv_iconst (v := 1) hx hb d_P_isDefined_33 (by decide) ?_
  refine lv_goto (tgt := 38) hx hb d_P_isDefined_34 (by decide) ?_
  exact w_P_isDefined_38 C n kc hk x1 x4 (1 : Int32) h hW hS (lv_sub hl [0, 1, 2] rfl)
set_option maxHeartbeats 4000000 in
set_option maxRecDepth 100000 in
theorem w_P_isDefined_5B (C : CB p s m args c meth b_P_isDefined "TwoLevelParser" 5 (some .boolean) D cA z ac) (n : Nat) (kc : Int64 → Int32 → Int32 → HS → Option Int32) {r : Int32} (hk : ∀ (x1 : Int64) (x3 : Int32) (x4 : Int32) (S : HS) {H : Heap} {locs : List Loc} {ls : Array Slot}, kc x1 x3 x4 S = some r → HW D cA z ac E1 ad S H → va_S (zA z) s.heap H locs → lv_has ls 5 [(0, .ref (ad 0)), (1, .long (x1)), (3, .int (x3)), (4, .int (x4))] → GW p l e 0 s m args below meth c D cA z ac E1 ad (some (.int r)) S H locs (F0 m 5 ls [])) (x1 : Int64) (x3 : Int32) (x4 : Int32) {S : HS} {H : Heap} {locs : List Loc} {ls : Array Slot} (h : f_P_isDefined_b5B n kc x1 x3 x4 S = some r) (hW : HW D cA z ac E1 ad S H) (hS : va_S (zA z) s.heap H locs) (hl : lv_has ls 5 [(0, .ref (ad 0)), (1, .long (x1)), (3, .int (x3)), (4, .int (x4))]) : GW p l e 0 s m args below meth c D cA z ac E1 ad (some (.int r)) S H locs (F0 m 5 ls []) := by
  obtain ⟨⟨hx, hb, hml, hown, hts⟩, hK, hr, hlo⟩ := id C
  unfold f_P_isDefined_b5B at h
  refine lv_iload hx hb d_P_isDefined_5 (lv_at hl 3 rfl) ?_
  refine lv_aload_n hx hb d_P_isDefined_7 rfl (lv_at hl 0 rfl) ?_
  refine hg_i C hW 0 4 (hW.fx 0 rfl) rfl q_P (by decide) rfl (lkF C kf_P_182) d_P_isDefined_8 ?_
  refine lv_icmp_ge (tgt := 45) hx hb d_P_isDefined_11 (by decide) (fun c11 => ?_) (fun c11 => ?_)
  · have h := ite_t c11 h
    refine lv_iload_n hx hb d_P_isDefined_45 rfl (lv_at hl 2 rfl) ?_
    obtain ⟨g3, h⟩ := gd_some h
    have h := Option.some.inj h
    subst h
    exact he_z C hW hS g3 d_P_isDefined_46
  · have h := ite_f c11 h
    refine lv_iload_n hx hb d_P_isDefined_14 rfl (lv_at hl 2 rfl) ?_
    refine lv_if_ne (tgt := 33) hx hb d_P_isDefined_15 (by decide) (fun c15 => ?_) (fun c15 => ?_)
    · have h := ite_f c15 h
      exact w_P_isDefined_33 C n kc hk x1 x4 h hW hS (lv_sub hl [0, 1, 3] rfl)
    · have h := ite_t c15 h
      refine lv_aload_n hx hb d_P_isDefined_18 rfl (lv_at hl 0 rfl) ?_
      refine hg_r (j := 4) C hW 0 3 (hW.fx 0 rfl) rfl q_P (by decide) rfl (hW.fn (E := E1) (i := 0) (k := 3) rfl) (lkF C kf_P_124) d_P_isDefined_19 ?_
      refine lv_iload hx hb d_P_isDefined_22 (lv_at hl 3 rfl) ?_
      obtain ⟨g4, h⟩ := gd_some h
      refine ha_r (t := 4) (ck := 14) (j := (6 + 3 * x4.toNatClampNeg)) C hW 4 (hW.fx 4 rfl) rfl (by decide) rfl rfl g4 (hW.fn (E := E1) (finA (ha_lt g4))) d_P_isDefined_24 ?_
      obtain ⟨g5, h⟩ := gd_some h
      refine hg_l C hW (6 + 3 * x4.toNatClampNeg) 4 g5.2 g5.1 q_D (by decide) rfl (lkN C kf_P_194) d_P_isDefined_25 ?_
      refine lv_lload_n hx hb d_P_isDefined_28 rfl (lv_at hl 1 rfl) ?_
      refine W.lcmp hx hb d_P_isDefined_29 ?_
      refine lv_if_ne (tgt := 37) hx hb d_P_isDefined_30 (by decide) (fun c30 => ?_) (fun c30 => ?_)
      · have h := ite_f c30 h
        refine lv_iconst (v := 0) hx hb d_P_isDefined_37 (by decide) ?_
        exact w_P_isDefined_38 C n kc hk x1 x4 (0 : Int32) h hW hS (lv_sub hl [0, 1, 3] rfl)
      · have h := ite_t c30 h
        exact w_P_isDefined_33 C n kc hk x1 x4 h hW hS (lv_sub hl [0, 1, 3] rfl)
set_option maxHeartbeats 4000000 in
set_option maxRecDepth 100000 in
theorem w_P_isDefined_5 (C : CB p s m args c meth b_P_isDefined "TwoLevelParser" 5 (some .boolean) D cA z ac) (n : Nat) (k : Nat) {r : Int32} : ∀ (x1 : Int64) (x3 : Int32) (x4 : Int32) {S : HS} {H : Heap} {locs : List Loc} {ls : Array Slot}, f_P_isDefined_b5 n k x1 x3 x4 S = some r → HW D cA z ac E1 ad S H → va_S (zA z) s.heap H locs → lv_has ls 5 [(0, .ref (ad 0)), (1, .long (x1)), (3, .int (x3)), (4, .int (x4))] → GW p l e 0 s m args below meth c D cA z ac E1 ad (some (.int r)) S H locs (F0 m 5 ls []) := by
  induction k with
  | zero => intro x1 x3 x4 S H locs ls h; cases h
  | succ k ih => intro x1 x3 x4 S H locs ls h hW hS hl; exact w_P_isDefined_5B C n (f_P_isDefined_b5 n k) (fun x1 x3 x4 S H locs ls h hW hS hl => ih x1 x3 x4 h hW hS hl) x1 x3 x4 h hW hS hl
set_option maxHeartbeats 4000000 in
set_option maxRecDepth 100000 in
theorem s_P_isDefined (n : Nat) (x1 : Int64) {S : HS} {r : Int32} (h : f_P_isDefined n x1 S = some r) : Met l y_P_isDefined (.code y_P_isDefined b_P_isDefined 5 (some .boolean) :: lw_g) (rmD 0 0 0) (PcH D cA z ac E1 ad [.ref (ad 0), .long (x1)] S) (QN D cA z ac E1 ad (some (.int r)) S) 0 0 (zA z) := by
  refine Met.ofH (own := "TwoLevelParser") (by decide) rfl (Nat.le_of_ble_eq_true rfl) ?_
  intro p e s m args below meth c H ls C hW hS hl
  have hl : lv_has ls 5 [(0, .ref (ad 0)), (1, .long (x1))] := hl
  obtain ⟨⟨hx, hb, hml, hown, hts⟩, hK, hr, hlo⟩ := id C
  unfold f_P_isDefined at h
  refine lv_iconst (v := 0) hx hb d_P_isDefined_0 (by decide) ?_
  obtain ⟨v1, ev1, h⟩ := lt_some h
  refine lt_i_n (lv' := [(3, .int (v1)), (0, .ref (ad 0)), (1, .long (x1))]) C d_P_isDefined_1 rfl hl (by decide) ev1 rfl (fun ls hl => ?_)
  refine lv_iconst (v := 0) hx hb d_P_isDefined_2 (by decide) ?_
  obtain ⟨v2, ev2, h⟩ := lt_some h
  refine lt_i (lv' := [(4, .int (v2)), (3, .int (v1)), (0, .ref (ad 0)), (1, .long (x1))]) C d_P_isDefined_3 hl (by decide) ev2 rfl (fun ls hl => ?_)
  exact w_P_isDefined_5 C n n x1 v1 v2 h hW hS (lv_sub hl [2, 3, 1, 0] rfl)
end WK
def f_P_readParameter_b85 (n : Nat) (kc : Nat → Int32 → Int32 → HS → Option HS) (x1 : Nat) (x3 : Int32) (y0 : Int32) (S : HS) : Option HS :=
  lt y0 fun v33 =>
  lt (x3 + 1) fun v34 =>
  kc x1 v33 v34 S
def f_P_readParameter_b80 (n : Nat) (kc : Nat → Int32 → Int32 → HS → Option HS) (x1 : Nat) (x3 : Int32) (S : HS) : Option HS :=
  f_P_readParameter_b85 n kc x1 x3 (1 : Int32) S
def f_P_readParameter_b84 (n : Nat) (kc : Nat → Int32 → Int32 → HS → Option HS) (x1 : Nat) (x3 : Int32) (S : HS) : Option HS :=
  f_P_readParameter_b85 n kc x1 x3 (0 : Int32) S
def f_P_readParameter_b169 (n : Nat) (x1 : Nat) (y0 : Int32) (y1 : Int32) (y2 : Nat) (S : HS) : Option HS :=
  gd (kd y2 = 11 ∧ gD S y2 = true ∧ ln y2 = 8) <|
  gd (inR y1 8) <|
  lt (sF S y2 y1.toNatClampNeg y0) fun S28 =>
  ob (f_P_pass n 501 S28) fun S29 =>
  gd (kd x1 = 2 ∧ gD S29 x1 = true) <|
  gd (kd x1 = 2 ∧ gD S29 x1 = true) <|
  lt (sF S29 x1 2 ((gF S29 x1 2) + (1 : Int32))) fun S32 =>
  some S32
def f_P_readParameter_b114 (n : Nat) (x1 : Nat) (S : HS) : Option HS :=
  (if (gF S 0 7) ≤ 0 then
  gd (kd x1 = 2 ∧ gD S x1 = true) <|
  gd (kd x1 = 2 ∧ gD S x1 = true) <|
  gd (kd (x1 + 1) = 12 ∧ gD S (x1 + 1) = true ∧ ln (x1 + 1) = 8) <|
  gd (inR (gF S x1 2) 8) <|
  lt (sL S (x1 + 1) (gF S x1 2).toNatClampNeg (gL S 1 5)) fun S19 =>
  ob (f_P_pass n 502 S19) fun S20 =>
  gd (kd x1 = 2 ∧ gD S20 x1 = true) <|
  gd (kd x1 = 2 ∧ gD S20 x1 = true) <|
  (if (gF S20 0 7) = 0 then
  ob2 (f_P_type n (0 : Int32) S20) fun r24 S23 =>
  f_P_readParameter_b169 n x1 r24 (gF S20 x1 2) (x1 + 2) S23
  else
  f_P_readParameter_b169 n x1 (0 : Int32) (gF S20 x1 2) (x1 + 2) S20)
  else
  some S)
def f_P_readParameter_b110 (n : Nat) (x1 : Nat) (S : HS) : Option HS :=
  ob (f_P_refuse S) fun S25 =>
  f_P_readParameter_b114 n x1 S25
def f_P_readParameter_b38B (n : Nat) (kc : Nat → Int32 → Int32 → HS → Option HS) (x1 : Nat) (x2 : Int32) (x3 : Int32) (S : HS) : Option HS :=
  gd (kd x1 = 2 ∧ gD S x1 = true) <|
  (if (gF S x1 2) ≤ x3 then
  (if (gF S 0 7) = 0 then
  ob (f_P_isName n S) fun r9 =>
  (if r9 = 0 then
  f_P_readParameter_b110 n x1 S
  else
  (if x2 = 0 then
  f_P_readParameter_b114 n x1 S
  else
  f_P_readParameter_b110 n x1 S))
  else
  f_P_readParameter_b114 n x1 S)
  else
  (if x2 = 0 then
  ob (gX S 1 3) fun j10 =>
  gd (isSo j10 ∧ isSo 502) (if j10 = 502 then
  gd (kd x1 = 2 ∧ gD S x1 = true) <|
  gd (kd (x1 + 1) = 12 ∧ gD S (x1 + 1) = true ∧ ln (x1 + 1) = 8) <|
  gd (inR x3 8) <|
  (if (lg_cmp (gL S (x1 + 1) x3.toNatClampNeg) (gL S 1 5)) = 0 then
  f_P_readParameter_b80 n kc x1 x3 S
  else
  f_P_readParameter_b84 n kc x1 x3 S)
  else
  f_P_readParameter_b84 n kc x1 x3 S)
  else
  f_P_readParameter_b80 n kc x1 x3 S))
def f_P_readParameter_b38 (n : Nat) (k : Nat) : Nat → Int32 → Int32 → HS → Option HS := lpF (fun _ _ _ _ => none) (f_P_readParameter_b38B n) k
def f_P_readParameter_b27 (n : Nat) (x1 : Nat) (S : HS) : Option HS :=
  ob (f_P_pass n 500 S) fun S5 =>
  lt (0 : Int32) fun v6 =>
  lt (0 : Int32) fun v7 =>
  f_P_readParameter_b38 n n x1 v6 v7 S5
def f_P_readParameter (n : Nat) (x1 : Nat) (S : HS) : Option HS :=
  ob (gX S 1 3) fun j1 =>
  gd (isSo j1 ∧ isSo 500) (if j1 = 500 then
  gd (kd x1 = 2 ∧ gD S x1 = true) <|
  (if (gF S x1 2) = (8 : Int32) then
  ob (f_P_refuse S) fun S4 =>
  some S4
  else
  f_P_readParameter_b27 n x1 S)
  else
  f_P_readParameter_b27 n x1 S)
section WK
variable {p : Program} {l : Launch} {e : Env} {s : State} {m : MethodId} {args : Array Value} {below : List Frame} {meth : Method} {c : Code} {D : va_G} {cA : Nat → ClassId} {z : Nat} {ac : Nat → Nat} {ad : Nat → Nat}
set_option maxHeartbeats 4000000 in
set_option maxRecDepth 100000 in
theorem w_P_readParameter_85 (C : CB p s m args c meth b_P_readParameter "TwoLevelParser" 4 none D cA z ac) (n : Nat) (kc : Nat → Int32 → Int32 → HS → Option HS) {S' : HS} (hk : ∀ (x1 : Nat) (x2 : Int32) (x3 : Int32) (S : HS) {H : Heap} {locs : List Loc} {ls : Array Slot}, kc x1 x2 x3 S = some S' → HW D cA z ac E1 ad S H → va_S (zA z) s.heap H locs → lv_has ls 4 [(0, .ref (ad 0)), (1, .ref (ad x1)), (2, .int (x2)), (3, .int (x3))] → GW p l e 8 s m args below meth c D cA z ac E1 ad none S' H locs (F0 m 38 ls [])) (x1 : Nat) (x3 : Int32) (y0 : Int32) {S : HS} {H : Heap} {locs : List Loc} {ls : Array Slot} (h : f_P_readParameter_b85 n kc x1 x3 y0 S = some S') (hW : HW D cA z ac E1 ad S H) (hS : va_S (zA z) s.heap H locs) (hl : lv_has ls 4 [(0, .ref (ad 0)), (1, .ref (ad x1)), (3, .int (x3))]) : GW p l e 8 s m args below meth c D cA z ac E1 ad none S' H locs (F0 m 85 ls [.int (y0)]) := by
  obtain ⟨⟨hx, hb, hml, hown, hts⟩, hK, hr, hlo⟩ := id C
  unfold f_P_readParameter_b85 at h
  obtain ⟨v33, ev33, h⟩ := lt_some h
  refine lt_i_n (lv' := [(2, .int (v33)), (0, .ref (ad 0)), (1, .ref (ad x1)), (3, .int (x3))]) C d_P_readParameter_85 rfl hl (by decide) ev33 rfl (fun ls hl => ?_)
  obtain ⟨v34, ev34, h⟩ := lt_some h
  refine lv_iinc (v := v34) (lv' := [(3, .int (v34)), (2, .int (v33)), (0, .ref (ad 0)), (1, .ref (ad x1))]) hx hb d_P_readParameter_86 hl (k := 3) rfl (by rw [ev34]; rfl) (by decide) rfl (fun ls hl => ?_)
  refine lv_goto (tgt := 38) hx hb d_P_readParameter_89 (by decide) ?_
  exact hk _ _ _ _ h hW hS (lv_sub hl [2, 3, 1, 0] rfl)
set_option maxHeartbeats 4000000 in
set_option maxRecDepth 100000 in
theorem w_P_readParameter_80 (C : CB p s m args c meth b_P_readParameter "TwoLevelParser" 4 none D cA z ac) (n : Nat) (kc : Nat → Int32 → Int32 → HS → Option HS) {S' : HS} (hk : ∀ (x1 : Nat) (x2 : Int32) (x3 : Int32) (S : HS) {H : Heap} {locs : List Loc} {ls : Array Slot}, kc x1 x2 x3 S = some S' → HW D cA z ac E1 ad S H → va_S (zA z) s.heap H locs → lv_has ls 4 [(0, .ref (ad 0)), (1, .ref (ad x1)), (2, .int (x2)), (3, .int (x3))] → GW p l e 8 s m args below meth c D cA z ac E1 ad none S' H locs (F0 m 38 ls [])) (x1 : Nat) (x3 : Int32) {S : HS} {H : Heap} {locs : List Loc} {ls : Array Slot} (h : f_P_readParameter_b80 n kc x1 x3 S = some S') (hW : HW D cA z ac E1 ad S H) (hS : va_S (zA z) s.heap H locs) (hl : lv_has ls 4 [(0, .ref (ad 0)), (1, .ref (ad x1)), (3, .int (x3))]) : GW p l e 8 s m args below meth c D cA z ac E1 ad none S' H locs (F0 m 80 ls []) := by
  obtain ⟨⟨hx, hb, hml, hown, hts⟩, hK, hr, hlo⟩ := id C
  unfold f_P_readParameter_b80 at h
  refine lv_iconst (v := 1) hx hb d_P_readParameter_80 (by decide) ?_
  refine lv_goto (tgt := 85) hx hb d_P_readParameter_81 (by decide) ?_
  exact w_P_readParameter_85 C n kc hk x1 x3 (1 : Int32) h hW hS (lv_sub hl [0, 1, 2] rfl)
set_option maxHeartbeats 4000000 in
set_option maxRecDepth 100000 in
theorem w_P_readParameter_84 (C : CB p s m args c meth b_P_readParameter "TwoLevelParser" 4 none D cA z ac) (n : Nat) (kc : Nat → Int32 → Int32 → HS → Option HS) {S' : HS} (hk : ∀ (x1 : Nat) (x2 : Int32) (x3 : Int32) (S : HS) {H : Heap} {locs : List Loc} {ls : Array Slot}, kc x1 x2 x3 S = some S' → HW D cA z ac E1 ad S H → va_S (zA z) s.heap H locs → lv_has ls 4 [(0, .ref (ad 0)), (1, .ref (ad x1)), (2, .int (x2)), (3, .int (x3))] → GW p l e 8 s m args below meth c D cA z ac E1 ad none S' H locs (F0 m 38 ls [])) (x1 : Nat) (x3 : Int32) {S : HS} {H : Heap} {locs : List Loc} {ls : Array Slot} (h : f_P_readParameter_b84 n kc x1 x3 S = some S') (hW : HW D cA z ac E1 ad S H) (hS : va_S (zA z) s.heap H locs) (hl : lv_has ls 4 [(0, .ref (ad 0)), (1, .ref (ad x1)), (3, .int (x3))]) : GW p l e 8 s m args below meth c D cA z ac E1 ad none S' H locs (F0 m 84 ls []) := by
  obtain ⟨⟨hx, hb, hml, hown, hts⟩, hK, hr, hlo⟩ := id C
  unfold f_P_readParameter_b84 at h
  refine lv_iconst (v := 0) hx hb d_P_readParameter_84 (by decide) ?_
  exact w_P_readParameter_85 C n kc hk x1 x3 (0 : Int32) h hW hS (lv_sub hl [0, 1, 2] rfl)
set_option maxHeartbeats 4000000 in
set_option maxRecDepth 100000 in
theorem w_P_readParameter_169 (C : CB p s m args c meth b_P_readParameter "TwoLevelParser" 4 none D cA z ac) (n : Nat) {S' : HS} (x1 : Nat) (y0 : Int32) (y1 : Int32) (y2 : Nat) {S : HS} {H : Heap} {locs : List Loc} {ls : Array Slot} (h : f_P_readParameter_b169 n x1 y0 y1 y2 S = some S') (hW : HW D cA z ac E1 ad S H) (hS : va_S (zA z) s.heap H locs) (hl : lv_has ls 4 [(0, .ref (ad 0)), (1, .ref (ad x1))]) : GW p l e 8 s m args below meth c D cA z ac E1 ad none S' H locs (F0 m 169 ls [.int (y0), .int (y1), .ref (ad y2)]) := by
  obtain ⟨⟨hx, hb, hml, hown, hts⟩, hK, hr, hlo⟩ := id C
  unfold f_P_readParameter_b169 at h
  obtain ⟨g26, h⟩ := gd_some h
  obtain ⟨g27, h⟩ := gd_some h
  obtain ⟨S28, eS28, h⟩ := lt_some h
  refine hs_i C hW hS y2 g26.2.1 g26.1 g26.2.2 g27 eS28 d_P_readParameter_169 (fun H locs hW hS => ?_)
  refine lv_aload_n hx hb d_P_readParameter_170 rfl (lv_at hl 0 rfl) ?_
  refine hc_so (i := 1) C hW hS (by decide) kf_P_218 d_P_readParameter_171 ?_
  obtain ⟨S29, eS29, h⟩ := ob_some h
  refine hx_V (i := 0) (As := [.ref (ad 501)]) (rest := []) C hW hS (s_P_pass n 501 eS29) km_P_205 kv_P_pass ke_P_pass kn_P kw_P_pass kd_P_pass (hW.fx 0 rfl) rfl q_P rfl ⟨by decide, by decide⟩ ⟨Nat.zero_le _, Nat.zero_le _⟩ rfl hl.1 rfl (Nat.le_of_ble_eq_true rfl) d_P_readParameter_174 (fun H locs hW hS => ?_)
  refine lv_aload_n hx hb d_P_readParameter_177 rfl (lv_at hl 1 rfl) ?_
  refine lv_dup hx hb d_P_readParameter_178 rfl ?_
  obtain ⟨g30, h⟩ := gd_some h
  refine hg_i C hW x1 2 g30.2 g30.1 q_D (by decide) rfl (lkN C kf_P_217) d_P_readParameter_179 ?_
  refine lv_iconst (v := 1) hx hb d_P_readParameter_182 (by decide) ?_
  refine lv_iadd hx hb d_P_readParameter_183 ?_
  obtain ⟨g31, h⟩ := gd_some h
  obtain ⟨S32, eS32, h⟩ := lt_some h
  refine hp_i C hW hS x1 2 g31.2 g31.1 q_D (by decide) rfl rfl rfl (lkN C kf_P_217) eS32 d_P_readParameter_184 (fun H locs hW hS => ?_)
  have h := Option.some.inj h
  subst h
  exact he_v C hW hS d_P_readParameter_187
set_option maxHeartbeats 4000000 in
set_option maxRecDepth 100000 in
theorem w_P_readParameter_114 (C : CB p s m args c meth b_P_readParameter "TwoLevelParser" 4 none D cA z ac) (n : Nat) {S' : HS} (x1 : Nat) {S : HS} {H : Heap} {locs : List Loc} {ls : Array Slot} (h : f_P_readParameter_b114 n x1 S = some S') (hW : HW D cA z ac E1 ad S H) (hS : va_S (zA z) s.heap H locs) (hl : lv_has ls 4 [(0, .ref (ad 0)), (1, .ref (ad x1))]) : GW p l e 8 s m args below meth c D cA z ac E1 ad none S' H locs (F0 m 114 ls []) := by
  obtain ⟨⟨hx, hb, hml, hown, hts⟩, hK, hr, hlo⟩ := id C
  unfold f_P_readParameter_b114 at h
  refine lv_aload_n hx hb d_P_readParameter_114 rfl (lv_at hl 0 rfl) ?_
  refine hg_i C hW 0 7 (hW.fx 0 rfl) rfl q_P (by decide) rfl (lkF C kf_P_146) d_P_readParameter_115 ?_
  refine lv_if_le (tgt := 122) hx hb d_P_readParameter_118 (by decide) (fun c118 => ?_) (fun c118 => ?_)
  · have h := ite_t c118 h
    refine lv_aload_n hx hb d_P_readParameter_122 rfl (lv_at hl 1 rfl) ?_
    obtain ⟨g15, h⟩ := gd_some h
    refine hg_r (j := (x1 + 1)) C hW x1 6 g15.2 g15.1 q_D (by decide) rfl (hW.fn (E := E1) (finD6 g15.1)) (lkN C kf_P_237) d_P_readParameter_123 ?_
    refine lv_aload_n hx hb d_P_readParameter_126 rfl (lv_at hl 1 rfl) ?_
    obtain ⟨g16, h⟩ := gd_some h
    refine hg_i C hW x1 2 g16.2 g16.1 q_D (by decide) rfl (lkN C kf_P_217) d_P_readParameter_127 ?_
    refine lv_aload_n hx hb d_P_readParameter_130 rfl (lv_at hl 0 rfl) ?_
    refine hg_r (j := 1) C hW 0 0 (hW.fx 0 rfl) rfl q_P (by decide) rfl (hW.fn (E := E1) (i := 0) (k := 0) rfl) (lkF C kf_P_112) d_P_readParameter_131 ?_
    refine hg_l C hW 1 5 (hW.fx 1 rfl) rfl q_X (by decide) rfl (lkN C kf_P_165) d_P_readParameter_134 ?_
    obtain ⟨g17, h⟩ := gd_some h
    obtain ⟨g18, h⟩ := gd_some h
    obtain ⟨S19, eS19, h⟩ := lt_some h
    refine hs_l C hW hS (x1 + 1) g17.2.1 g17.1 g17.2.2 g18 eS19 d_P_readParameter_137 (fun H locs hW hS => ?_)
    refine lv_aload_n hx hb d_P_readParameter_138 rfl (lv_at hl 0 rfl) ?_
    refine hc_so (i := 2) C hW hS (by decide) kf_P_162 d_P_readParameter_139 ?_
    obtain ⟨S20, eS20, h⟩ := ob_some h
    refine hx_V (i := 0) (As := [.ref (ad 502)]) (rest := []) C hW hS (s_P_pass n 502 eS20) km_P_205 kv_P_pass ke_P_pass kn_P kw_P_pass kd_P_pass (hW.fx 0 rfl) rfl q_P rfl ⟨by decide, by decide⟩ ⟨Nat.zero_le _, Nat.zero_le _⟩ rfl hl.1 rfl (Nat.le_of_ble_eq_true rfl) d_P_readParameter_142 (fun H locs hW hS => ?_)
    refine lv_aload_n hx hb d_P_readParameter_145 rfl (lv_at hl 1 rfl) ?_
    obtain ⟨g21, h⟩ := gd_some h
    refine hg_r (j := (x1 + 2)) C hW x1 7 g21.2 g21.1 q_D (by decide) rfl (hW.fn (E := E1) (finD7 g21.1)) (lkN C kf_P_241) d_P_readParameter_146 ?_
    refine lv_aload_n hx hb d_P_readParameter_149 rfl (lv_at hl 1 rfl) ?_
    obtain ⟨g22, h⟩ := gd_some h
    refine hg_i C hW x1 2 g22.2 g22.1 q_D (by decide) rfl (lkN C kf_P_217) d_P_readParameter_150 ?_
    refine lv_aload_n hx hb d_P_readParameter_153 rfl (lv_at hl 0 rfl) ?_
    refine hg_i C hW 0 7 (hW.fx 0 rfl) rfl q_P (by decide) rfl (lkF C kf_P_146) d_P_readParameter_154 ?_
    refine lv_if_ne (tgt := 168) hx hb d_P_readParameter_157 (by decide) (fun c157 => ?_) (fun c157 => ?_)
    · have h := ite_f c157 h
      refine lv_iconst (v := 0) hx hb d_P_readParameter_168 (by decide) ?_
      exact w_P_readParameter_169 C n x1 (0 : Int32) (gF S20 x1 2) (x1 + 2) h hW hS (lv_sub hl [0, 1] rfl)
    · have h := ite_t c157 h
      refine lv_aload_n hx hb d_P_readParameter_160 rfl (lv_at hl 0 rfl) ?_
      refine lv_iconst (v := 0) hx hb d_P_readParameter_161 (by decide) ?_
      obtain ⟨r24, S23, eS23, h⟩ := ob2_some h
      refine hx_V (i := 0) (As := [.int ((0 : Int32))]) (rest := [.int ((gF S20 x1 2)), .ref (ad ((x1 + 2)))]) C hW hS (s_P_type n (0 : Int32) eS23) km_P_225 kv_P_type ke_P_type kn_P kw_P_type kd_P_type (hW.fx 0 rfl) rfl q_P rfl ⟨by decide, by decide⟩ ⟨Nat.zero_le _, Nat.zero_le _⟩ rfl hl.1 rfl (Nat.le_of_ble_eq_true rfl) d_P_readParameter_162 (fun H locs hW hS => ?_)
      refine lv_goto (tgt := 169) hx hb d_P_readParameter_165 (by decide) ?_
      exact w_P_readParameter_169 C n x1 r24 (gF S20 x1 2) (x1 + 2) h hW hS (lv_sub hl [0, 1] rfl)
  · have h := ite_f c118 h
    have h := Option.some.inj h
    subst h
    exact he_v C hW hS d_P_readParameter_121
set_option maxHeartbeats 4000000 in
set_option maxRecDepth 100000 in
theorem w_P_readParameter_110 (C : CB p s m args c meth b_P_readParameter "TwoLevelParser" 4 none D cA z ac) (n : Nat) {S' : HS} (x1 : Nat) {S : HS} {H : Heap} {locs : List Loc} {ls : Array Slot} (h : f_P_readParameter_b110 n x1 S = some S') (hW : HW D cA z ac E1 ad S H) (hS : va_S (zA z) s.heap H locs) (hl : lv_has ls 4 [(0, .ref (ad 0)), (1, .ref (ad x1))]) : GW p l e 8 s m args below meth c D cA z ac E1 ad none S' H locs (F0 m 110 ls []) := by
  obtain ⟨⟨hx, hb, hml, hown, hts⟩, hK, hr, hlo⟩ := id C
  unfold f_P_readParameter_b110 at h
  refine lv_aload_n hx hb d_P_readParameter_110 rfl (lv_at hl 0 rfl) ?_
  obtain ⟨S25, eS25, h⟩ := ob_some h
  refine hx_V (i := 0) (As := []) (rest := []) C hW hS (s_P_refuse eS25) km_P_169 kv_P_refuse ke_P_refuse kn_P kw_P_refuse kd_P_refuse (hW.fx 0 rfl) rfl q_P rfl ⟨by decide, by decide⟩ ⟨Nat.zero_le _, Nat.zero_le _⟩ rfl hl.1 rfl (Nat.le_of_ble_eq_true rfl) d_P_readParameter_111 (fun H locs hW hS => ?_)
  exact w_P_readParameter_114 C n x1 h hW hS (lv_sub hl [0, 1] rfl)
set_option maxHeartbeats 4000000 in
set_option maxRecDepth 100000 in
theorem w_P_readParameter_38B (C : CB p s m args c meth b_P_readParameter "TwoLevelParser" 4 none D cA z ac) (n : Nat) (kc : Nat → Int32 → Int32 → HS → Option HS) {S' : HS} (hk : ∀ (x1 : Nat) (x2 : Int32) (x3 : Int32) (S : HS) {H : Heap} {locs : List Loc} {ls : Array Slot}, kc x1 x2 x3 S = some S' → HW D cA z ac E1 ad S H → va_S (zA z) s.heap H locs → lv_has ls 4 [(0, .ref (ad 0)), (1, .ref (ad x1)), (2, .int (x2)), (3, .int (x3))] → GW p l e 8 s m args below meth c D cA z ac E1 ad none S' H locs (F0 m 38 ls [])) (x1 : Nat) (x2 : Int32) (x3 : Int32) {S : HS} {H : Heap} {locs : List Loc} {ls : Array Slot} (h : f_P_readParameter_b38B n kc x1 x2 x3 S = some S') (hW : HW D cA z ac E1 ad S H) (hS : va_S (zA z) s.heap H locs) (hl : lv_has ls 4 [(0, .ref (ad 0)), (1, .ref (ad x1)), (2, .int (x2)), (3, .int (x3))]) : GW p l e 8 s m args below meth c D cA z ac E1 ad none S' H locs (F0 m 38 ls []) := by
  obtain ⟨⟨hx, hb, hml, hown, hts⟩, hK, hr, hlo⟩ := id C
  unfold f_P_readParameter_b38B at h
  refine lv_iload_n hx hb d_P_readParameter_38 rfl (lv_at hl 3 rfl) ?_
  refine lv_aload_n hx hb d_P_readParameter_39 rfl (lv_at hl 1 rfl) ?_
  obtain ⟨g8, h⟩ := gd_some h
  refine hg_i C hW x1 2 g8.2 g8.1 q_D (by decide) rfl (lkN C kf_P_217) d_P_readParameter_40 ?_
  refine lv_icmp_ge (tgt := 92) hx hb d_P_readParameter_43 (by decide) (fun c43 => ?_) (fun c43 => ?_)
  · have h := ite_t c43 h
    refine lv_aload_n hx hb d_P_readParameter_92 rfl (lv_at hl 0 rfl) ?_
    refine hg_i C hW 0 7 (hW.fx 0 rfl) rfl q_P (by decide) rfl (lkF C kf_P_146) d_P_readParameter_93 ?_
    refine lv_if_ne (tgt := 114) hx hb d_P_readParameter_96 (by decide) (fun c96 => ?_) (fun c96 => ?_)
    · have h := ite_f c96 h
      exact w_P_readParameter_114 C n x1 h hW hS (lv_sub hl [0, 1] rfl)
    · have h := ite_t c96 h
      refine lv_aload_n hx hb d_P_readParameter_99 rfl (lv_at hl 0 rfl) ?_
      obtain ⟨r9, er9, h⟩ := ob_some h
      refine hx_V (i := 0) (As := []) (rest := []) C hW hS (s_P_isName n er9) km_P_209 kv_P_isName ke_P_isName kn_P kw_P_isName kd_P_isName (hW.fx 0 rfl) rfl q_P rfl ⟨by decide, by decide⟩ ⟨Nat.zero_le _, Nat.zero_le _⟩ rfl hl.1 rfl (Nat.le_of_ble_eq_true rfl) d_P_readParameter_100 (fun H locs hW hS => ?_)
      refine lv_if_eq (tgt := 110) hx hb d_P_readParameter_103 (by decide) (fun c103 => ?_) (fun c103 => ?_)
      · have h := ite_t c103 h
        exact w_P_readParameter_110 C n x1 h hW hS (lv_sub hl [0, 1] rfl)
      · have h := ite_f c103 h
        refine lv_iload_n hx hb d_P_readParameter_106 rfl (lv_at hl 2 rfl) ?_
        refine lv_if_eq (tgt := 114) hx hb d_P_readParameter_107 (by decide) (fun c107 => ?_) (fun c107 => ?_)
        · have h := ite_t c107 h
          exact w_P_readParameter_114 C n x1 h hW hS (lv_sub hl [0, 1] rfl)
        · have h := ite_f c107 h
          exact w_P_readParameter_110 C n x1 h hW hS (lv_sub hl [0, 1] rfl)
  · have h := ite_f c43 h
    refine lv_iload_n hx hb d_P_readParameter_46 rfl (lv_at hl 2 rfl) ?_
    refine lv_if_ne (tgt := 80) hx hb d_P_readParameter_47 (by decide) (fun c47 => ?_) (fun c47 => ?_)
    · have h := ite_f c47 h
      exact w_P_readParameter_80 C n kc hk x1 x3 h hW hS (lv_sub hl [0, 1, 3] rfl)
    · have h := ite_t c47 h
      refine lv_aload_n hx hb d_P_readParameter_50 rfl (lv_at hl 0 rfl) ?_
      refine hg_r (j := 1) C hW 0 0 (hW.fx 0 rfl) rfl q_P (by decide) rfl (hW.fn (E := E1) (i := 0) (k := 0) rfl) (lkF C kf_P_112) d_P_readParameter_51 ?_
      obtain ⟨j10, ej10, h⟩ := ob_some h
      refine hg_r (j := j10) C hW 1 3 (hW.fx 1 rfl) rfl q_X (by decide) rfl ej10 (lkN C kf_P_149) d_P_readParameter_54 ?_
      refine hc_so (i := 2) C hW hS (by decide) kf_P_162 d_P_readParameter_57 ?_
      obtain ⟨g11, h⟩ := gd_some h
      refine hj_ne (tgt := 84) C hW g11.1 g11.2 d_P_readParameter_60 (by decide) (fun c60 => ?_) (fun c60 => ?_)
      · have h := ite_t c60 h
        refine lv_aload_n hx hb d_P_readParameter_63 rfl (lv_at hl 1 rfl) ?_
        obtain ⟨g12, h⟩ := gd_some h
        refine hg_r (j := (x1 + 1)) C hW x1 6 g12.2 g12.1 q_D (by decide) rfl (hW.fn (E := E1) (finD6 g12.1)) (lkN C kf_P_237) d_P_readParameter_64 ?_
        refine lv_iload_n hx hb d_P_readParameter_67 rfl (lv_at hl 3 rfl) ?_
        obtain ⟨g13, h⟩ := gd_some h
        obtain ⟨g14, h⟩ := gd_some h
        refine ha_l C hW (x1 + 1) g13.2.1 g13.1 g13.2.2 g14 d_P_readParameter_68 ?_
        refine lv_aload_n hx hb d_P_readParameter_69 rfl (lv_at hl 0 rfl) ?_
        refine hg_r (j := 1) C hW 0 0 (hW.fx 0 rfl) rfl q_P (by decide) rfl (hW.fn (E := E1) (i := 0) (k := 0) rfl) (lkF C kf_P_112) d_P_readParameter_70 ?_
        refine hg_l C hW 1 5 (hW.fx 1 rfl) rfl q_X (by decide) rfl (lkN C kf_P_165) d_P_readParameter_73 ?_
        refine W.lcmp hx hb d_P_readParameter_76 ?_
        refine lv_if_ne (tgt := 84) hx hb d_P_readParameter_77 (by decide) (fun c77 => ?_) (fun c77 => ?_)
        · have h := ite_f c77 h
          exact w_P_readParameter_84 C n kc hk x1 x3 h hW hS (lv_sub hl [0, 1, 3] rfl)
        · have h := ite_t c77 h
          exact w_P_readParameter_80 C n kc hk x1 x3 h hW hS (lv_sub hl [0, 1, 3] rfl)
      · have h := ite_f c60 h
        exact w_P_readParameter_84 C n kc hk x1 x3 h hW hS (lv_sub hl [0, 1, 3] rfl)
set_option maxHeartbeats 4000000 in
set_option maxRecDepth 100000 in
theorem w_P_readParameter_38 (C : CB p s m args c meth b_P_readParameter "TwoLevelParser" 4 none D cA z ac) (n : Nat) (k : Nat) {S' : HS} : ∀ (x1 : Nat) (x2 : Int32) (x3 : Int32) {S : HS} {H : Heap} {locs : List Loc} {ls : Array Slot}, f_P_readParameter_b38 n k x1 x2 x3 S = some S' → HW D cA z ac E1 ad S H → va_S (zA z) s.heap H locs → lv_has ls 4 [(0, .ref (ad 0)), (1, .ref (ad x1)), (2, .int (x2)), (3, .int (x3))] → GW p l e 8 s m args below meth c D cA z ac E1 ad none S' H locs (F0 m 38 ls []) := by
  induction k with
  | zero => intro x1 x2 x3 S H locs ls h; cases h
  | succ k ih => intro x1 x2 x3 S H locs ls h hW hS hl; exact w_P_readParameter_38B C n (f_P_readParameter_b38 n k) (fun x1 x2 x3 S H locs ls h hW hS hl => ih x1 x2 x3 h hW hS hl) x1 x2 x3 h hW hS hl
set_option maxHeartbeats 4000000 in
set_option maxRecDepth 100000 in
theorem w_P_readParameter_27 (C : CB p s m args c meth b_P_readParameter "TwoLevelParser" 4 none D cA z ac) (n : Nat) {S' : HS} (x1 : Nat) {S : HS} {H : Heap} {locs : List Loc} {ls : Array Slot} (h : f_P_readParameter_b27 n x1 S = some S') (hW : HW D cA z ac E1 ad S H) (hS : va_S (zA z) s.heap H locs) (hl : lv_has ls 4 [(0, .ref (ad 0)), (1, .ref (ad x1))]) : GW p l e 8 s m args below meth c D cA z ac E1 ad none S' H locs (F0 m 27 ls []) := by
  obtain ⟨⟨hx, hb, hml, hown, hts⟩, hK, hr, hlo⟩ := id C
  unfold f_P_readParameter_b27 at h
  refine lv_aload_n hx hb d_P_readParameter_27 rfl (lv_at hl 0 rfl) ?_
  refine hc_so (i := 0) C hW hS (by decide) kf_P_188 d_P_readParameter_28 ?_
  obtain ⟨S5, eS5, h⟩ := ob_some h
  refine hx_V (i := 0) (As := [.ref (ad 500)]) (rest := []) C hW hS (s_P_pass n 500 eS5) km_P_205 kv_P_pass ke_P_pass kn_P kw_P_pass kd_P_pass (hW.fx 0 rfl) rfl q_P rfl ⟨by decide, by decide⟩ ⟨Nat.zero_le _, Nat.zero_le _⟩ rfl hl.1 rfl (Nat.le_of_ble_eq_true rfl) d_P_readParameter_31 (fun H locs hW hS => ?_)
  refine lv_iconst (v := 0) hx hb d_P_readParameter_34 (by decide) ?_
  obtain ⟨v6, ev6, h⟩ := lt_some h
  refine lt_i_n (lv' := [(2, .int (v6)), (0, .ref (ad 0)), (1, .ref (ad x1))]) C d_P_readParameter_35 rfl hl (by decide) ev6 rfl (fun ls hl => ?_)
  refine lv_iconst (v := 0) hx hb d_P_readParameter_36 (by decide) ?_
  obtain ⟨v7, ev7, h⟩ := lt_some h
  refine lt_i_n (lv' := [(3, .int (v7)), (2, .int (v6)), (0, .ref (ad 0)), (1, .ref (ad x1))]) C d_P_readParameter_37 rfl hl (by decide) ev7 rfl (fun ls hl => ?_)
  exact w_P_readParameter_38 C n n x1 v6 v7 h hW hS (lv_sub hl [2, 3, 1, 0] rfl)
set_option maxHeartbeats 4000000 in
set_option maxRecDepth 100000 in
theorem s_P_readParameter (n : Nat) (x1 : Nat) {S : HS} {S' : HS} (h : f_P_readParameter n x1 S = some S') : Met l y_P_readParameter (.code y_P_readParameter b_P_readParameter 4 none :: lw_g) (rmD 8 0 0) (PcH D cA z ac E1 ad [.ref (ad 0), .ref (ad x1)] S) (QN D cA z ac E1 ad none S') 0 0 (zA z) := by
  refine Met.ofH (own := "TwoLevelParser") (by decide) rfl (Nat.le_of_ble_eq_true rfl) ?_
  intro p e s m args below meth c H ls C hW hS hl
  have hl : lv_has ls 4 [(0, .ref (ad 0)), (1, .ref (ad x1))] := hl
  obtain ⟨⟨hx, hb, hml, hown, hts⟩, hK, hr, hlo⟩ := id C
  unfold f_P_readParameter at h
  refine lv_aload_n hx hb d_P_readParameter_0 rfl (lv_at hl 0 rfl) ?_
  refine hg_r (j := 1) C hW 0 0 (hW.fx 0 rfl) rfl q_P (by decide) rfl (hW.fn (E := E1) (i := 0) (k := 0) rfl) (lkF C kf_P_112) d_P_readParameter_1 ?_
  obtain ⟨j1, ej1, h⟩ := ob_some h
  refine hg_r (j := j1) C hW 1 3 (hW.fx 1 rfl) rfl q_X (by decide) rfl ej1 (lkN C kf_P_149) d_P_readParameter_4 ?_
  refine hc_so (i := 0) C hW hS (by decide) kf_P_188 d_P_readParameter_7 ?_
  obtain ⟨g2, h⟩ := gd_some h
  refine hj_ne (tgt := 27) C hW g2.1 g2.2 d_P_readParameter_10 (by decide) (fun c10 => ?_) (fun c10 => ?_)
  · have h := ite_t c10 h
    refine lv_aload_n hx hb d_P_readParameter_13 rfl (lv_at hl 1 rfl) ?_
    obtain ⟨g3, h⟩ := gd_some h
    refine hg_i C hW x1 2 g3.2 g3.1 q_D (by decide) rfl (lkN C kf_P_217) d_P_readParameter_14 ?_
    refine lv_bipush (v := 8) hx hb d_P_readParameter_17 (by decide) ?_
    refine lv_icmp_ne (tgt := 27) hx hb d_P_readParameter_19 (by decide) (fun c19 => ?_) (fun c19 => ?_)
    · have h := ite_f c19 h
      exact w_P_readParameter_27 C n x1 h hW hS (lv_sub hl [0, 1] rfl)
    · have h := ite_t c19 h
      refine lv_aload_n hx hb d_P_readParameter_22 rfl (lv_at hl 0 rfl) ?_
      obtain ⟨S4, eS4, h⟩ := ob_some h
      refine hx_V (i := 0) (As := []) (rest := []) C hW hS (s_P_refuse eS4) km_P_169 kv_P_refuse ke_P_refuse kn_P kw_P_refuse kd_P_refuse (hW.fx 0 rfl) rfl q_P rfl ⟨by decide, by decide⟩ ⟨Nat.zero_le _, Nat.zero_le _⟩ rfl hl.1 rfl (Nat.le_of_ble_eq_true rfl) d_P_readParameter_23 (fun H locs hW hS => ?_)
      have h := Option.some.inj h
      subst h
      exact he_v C hW hS d_P_readParameter_26
  · have h := ite_f c10 h
    exact w_P_readParameter_27 C n x1 h hW hS (lv_sub hl [0, 1] rfl)
end WK
def f_P_isInner (x0 : Nat) (S : HS) : Option Int32 :=
  gd (kd x0 = 4 ∧ gD S x0 = true) <|
  ob (gX S x0 1) fun j2 =>
  gd (kd x0 = 4 ∧ gD S x0 = true) <|
  ob (f_Js_charAt j2 (gF S x0 2)) fun r4 =>
  (if r4 = (41 : Int32) then
  some (1 : Int32)
  else
  some (0 : Int32))
section WK
variable {p : Program} {l : Launch} {e : Env} {s : State} {m : MethodId} {args : Array Value} {below : List Frame} {meth : Method} {c : Code} {D : va_G} {cA : Nat → ClassId} {z : Nat} {ac : Nat → Nat} {ad : Nat → Nat}
set_option maxHeartbeats 4000000 in
set_option maxRecDepth 100000 in
theorem s_P_isInner (x0 : Nat) {S : HS} {r : Int32} (h : f_P_isInner x0 S = some r) : Met l y_P_isInner (.code y_P_isInner b_P_isInner 1 (some .boolean) :: lw_g) (rmD 4 0 0) (PcH D cA z ac E1 ad [.ref (ad x0)] S) (QN D cA z ac E1 ad (some (.int r)) S) 0 0 (zA z) := by
  refine Met.ofH (own := "TwoLevelParser") (by decide) rfl (Nat.le_of_ble_eq_true rfl) ?_
  intro p e s m args below meth c H ls C hW hS hl
  have hl : lv_has ls 1 [(0, .ref (ad x0))] := hl
  obtain ⟨⟨hx, hb, hml, hown, hts⟩, hK, hr, hlo⟩ := id C
  unfold f_P_isInner at h
  refine lv_aload_n hx hb d_P_isInner_0 rfl (lv_at hl 0 rfl) ?_
  obtain ⟨g1, h⟩ := gd_some h
  obtain ⟨j2, ej2, h⟩ := ob_some h
  refine hg_r (j := j2) C hW x0 1 g1.2 g1.1 q_O (by decide) rfl ej2 (lkN C kf_P_288) d_P_isInner_1 ?_
  refine lv_aload_n hx hb d_P_isInner_4 rfl (lv_at hl 0 rfl) ?_
  obtain ⟨g3, h⟩ := gd_some h
  refine hg_i C hW x0 2 g3.2 g3.1 q_O (by decide) rfl (lkN C kf_P_292) d_P_isInner_5 ?_
  obtain ⟨r4, er4, h⟩ := ob_some h
  refine hx_chr C hW hS er4 km_P_9 ⟨by decide, by decide⟩ ⟨Nat.zero_le _, Nat.zero_le _⟩ hl.1 (Nat.le_of_ble_eq_true rfl) d_P_isInner_8 (fun H locs hW hS => ?_)
  refine lv_bipush (v := 41) hx hb d_P_isInner_11 (by decide) ?_
  refine lv_icmp_ne (tgt := 20) hx hb d_P_isInner_13 (by decide) (fun c13 => ?_) (fun c13 => ?_)
  · have h := ite_f c13 h
    refine lv_iconst (v := 0) hx hb d_P_isInner_20 (by decide) ?_
    have h := Option.some.inj h
    subst h
    exact he_z C hW hS (by decide) d_P_isInner_21
  · have h := ite_t c13 h
    refine lv_iconst (v := 1) hx hb d_P_isInner_16 (by decide) ?_
    refine lv_goto (tgt := 21) hx hb d_P_isInner_17 (by decide) ?_
    have h := Option.some.inj h
    subst h
    exact he_z C hW hS (by decide) d_P_isInner_21
end WK
def f_P_variable_b45 (n : Nat) (S : HS) : Option HS :=
  ob (f_P_refuse S) fun S6 =>
  some S6
def f_P_variable_b101 (n : Nat) (x1 : Nat) (S : HS) : Option HS :=
  gd (kd x1 = 4 ∧ gD S x1 = true) <|
  gd (kd x1 = 4 ∧ gD S x1 = true) <|
  lt (sF S x1 3 ((gF S x1 3) + (1 : Int32))) fun S18 =>
  ob (f_X_next n S18) fun S19 =>
  some S19
def f_P_variable_b36 (n : Nat) (x1 : Nat) (x2 : Int32) (x3 : Nat) (S : HS) : Option HS :=
  gd (kd x1 = 4 ∧ gD S x1 = true) <|
  (if (gF S x1 3) = (24 : Int32) then
  f_P_variable_b45 n S
  else
  (if x2 = 0 then
  gd (kd x3 = 3 ∧ gD S x3 = true) <|
  lt (sL S x3 6 (gL S 1 5)) fun S9 =>
  gd (kd x3 = 3 ∧ gD S9 x3 = true) <|
  lt (sF S9 x3 8 (gF S9 1 4)) fun S11 =>
  f_P_variable_b101 n x1 S11
  else
  gd (kd x3 = 3 ∧ gD S x3 = true) <|
  lt (sL S x3 7 (gL S 1 5)) fun S13 =>
  gd (kd x3 = 3 ∧ gD S13 x3 = true) <|
  lt (sF S13 x3 9 (gF S13 1 4)) fun S15 =>
  f_P_variable_b101 n x1 S15))
def f_P_variable (n : Nat) (x1 : Nat) (x2 : Int32) (S : HS) : Option HS :=
  gd (kd x1 = 4 ∧ gD S x1 = true) <|
  gd (inR (gF S x1 0) 4200) <|
  ob (gX S 3 (gF S x1 0).toNatClampNeg) fun j3 =>
  ob (f_P_isName n S) fun r4 =>
  (if r4 = 0 then
  f_P_variable_b45 n S
  else
  (if x2 = 0 then
  f_P_variable_b36 n x1 x2 j3 S
  else
  gd (kd j3 = 3 ∧ gD S j3 = true) <|
  (if (lg_cmp (gL S 1 5) (gL S j3 6)) = 0 then
  f_P_variable_b45 n S
  else
  f_P_variable_b36 n x1 x2 j3 S)))
section WK
variable {p : Program} {l : Launch} {e : Env} {s : State} {m : MethodId} {args : Array Value} {below : List Frame} {meth : Method} {c : Code} {D : va_G} {cA : Nat → ClassId} {z : Nat} {ac : Nat → Nat} {ad : Nat → Nat}
set_option maxHeartbeats 4000000 in
set_option maxRecDepth 100000 in
theorem w_P_variable_45 (C : CB p s m args c meth b_P_variable "TwoLevelParser" 4 none D cA z ac) (n : Nat) {S' : HS} {S : HS} {H : Heap} {locs : List Loc} {ls : Array Slot} (h : f_P_variable_b45 n S = some S') (hW : HW D cA z ac E1 ad S H) (hS : va_S (zA z) s.heap H locs) (hl : lv_has ls 4 [(0, .ref (ad 0))]) : GW p l e 8 s m args below meth c D cA z ac E1 ad none S' H locs (F0 m 45 ls []) := by
  obtain ⟨⟨hx, hb, hml, hown, hts⟩, hK, hr, hlo⟩ := id C
  unfold f_P_variable_b45 at h
  refine lv_aload_n hx hb d_P_variable_45 rfl (lv_at hl 0 rfl) ?_
  obtain ⟨S6, eS6, h⟩ := ob_some h
  refine hx_V (i := 0) (As := []) (rest := []) C hW hS (s_P_refuse eS6) km_P_169 kv_P_refuse ke_P_refuse kn_P kw_P_refuse kd_P_refuse (hW.fx 0 rfl) rfl q_P rfl ⟨by decide, by decide⟩ ⟨Nat.zero_le _, Nat.zero_le _⟩ rfl hl.1 rfl (Nat.le_of_ble_eq_true rfl) d_P_variable_46 (fun H locs hW hS => ?_)
  have h := Option.some.inj h
  subst h
  exact he_v C hW hS d_P_variable_49
set_option maxHeartbeats 4000000 in
set_option maxRecDepth 100000 in
theorem w_P_variable_101 (C : CB p s m args c meth b_P_variable "TwoLevelParser" 4 none D cA z ac) (n : Nat) {S' : HS} (x1 : Nat) {S : HS} {H : Heap} {locs : List Loc} {ls : Array Slot} (h : f_P_variable_b101 n x1 S = some S') (hW : HW D cA z ac E1 ad S H) (hS : va_S (zA z) s.heap H locs) (hl : lv_has ls 4 [(0, .ref (ad 0)), (1, .ref (ad x1))]) : GW p l e 8 s m args below meth c D cA z ac E1 ad none S' H locs (F0 m 101 ls []) := by
  obtain ⟨⟨hx, hb, hml, hown, hts⟩, hK, hr, hlo⟩ := id C
  unfold f_P_variable_b101 at h
  refine lv_aload_n hx hb d_P_variable_101 rfl (lv_at hl 1 rfl) ?_
  refine lv_dup hx hb d_P_variable_102 rfl ?_
  obtain ⟨g16, h⟩ := gd_some h
  refine hg_i C hW x1 3 g16.2 g16.1 q_O (by decide) rfl (lkN C kf_P_295) d_P_variable_103 ?_
  refine lv_iconst (v := 1) hx hb d_P_variable_106 (by decide) ?_
  refine lv_iadd hx hb d_P_variable_107 ?_
  obtain ⟨g17, h⟩ := gd_some h
  obtain ⟨S18, eS18, h⟩ := lt_some h
  refine hp_i C hW hS x1 3 g17.2 g17.1 q_O (by decide) rfl rfl rfl (lkN C kf_P_295) eS18 d_P_variable_108 (fun H locs hW hS => ?_)
  refine lv_aload_n hx hb d_P_variable_111 rfl (lv_at hl 0 rfl) ?_
  refine hg_r (j := 1) C hW 0 0 (hW.fx 0 rfl) rfl q_P (by decide) rfl (hW.fn (E := E1) (i := 0) (k := 0) rfl) (lkF C kf_P_112) d_P_variable_112 ?_
  obtain ⟨S19, eS19, h⟩ := ob_some h
  refine hx_V (i := 1) (As := []) (rest := []) C hW hS (s_X_next n eS19) km_P_172 kv_X_next ke_X_next kn_X kw_X_next kd_X_next (hW.fx 1 rfl) rfl q_X rfl ⟨by decide, by decide⟩ ⟨Nat.zero_le _, Nat.zero_le _⟩ rfl hl.1 rfl (Nat.le_of_ble_eq_true rfl) d_P_variable_115 (fun H locs hW hS => ?_)
  have h := Option.some.inj h
  subst h
  exact he_v C hW hS d_P_variable_118
set_option maxHeartbeats 4000000 in
set_option maxRecDepth 100000 in
theorem w_P_variable_36 (C : CB p s m args c meth b_P_variable "TwoLevelParser" 4 none D cA z ac) (n : Nat) {S' : HS} (x1 : Nat) (x2 : Int32) (x3 : Nat) {S : HS} {H : Heap} {locs : List Loc} {ls : Array Slot} (h : f_P_variable_b36 n x1 x2 x3 S = some S') (hW : HW D cA z ac E1 ad S H) (hS : va_S (zA z) s.heap H locs) (hl : lv_has ls 4 [(0, .ref (ad 0)), (1, .ref (ad x1)), (2, .int (x2)), (3, .ref (ad x3))]) : GW p l e 8 s m args below meth c D cA z ac E1 ad none S' H locs (F0 m 36 ls []) := by
  obtain ⟨⟨hx, hb, hml, hown, hts⟩, hK, hr, hlo⟩ := id C
  unfold f_P_variable_b36 at h
  refine lv_aload_n hx hb d_P_variable_36 rfl (lv_at hl 1 rfl) ?_
  obtain ⟨g7, h⟩ := gd_some h
  refine hg_i C hW x1 3 g7.2 g7.1 q_O (by decide) rfl (lkN C kf_P_295) d_P_variable_37 ?_
  refine lv_bipush (v := 24) hx hb d_P_variable_40 (by decide) ?_
  refine lv_icmp_ne (tgt := 50) hx hb d_P_variable_42 (by decide) (fun c42 => ?_) (fun c42 => ?_)
  · have h := ite_f c42 h
    refine lv_iload_n hx hb d_P_variable_50 rfl (lv_at hl 2 rfl) ?_
    refine lv_if_eq (tgt := 79) hx hb d_P_variable_51 (by decide) (fun c51 => ?_) (fun c51 => ?_)
    · have h := ite_t c51 h
      refine lv_aload_n hx hb d_P_variable_79 rfl (lv_at hl 3 rfl) ?_
      refine lv_aload_n hx hb d_P_variable_80 rfl (lv_at hl 0 rfl) ?_
      refine hg_r (j := 1) C hW 0 0 (hW.fx 0 rfl) rfl q_P (by decide) rfl (hW.fn (E := E1) (i := 0) (k := 0) rfl) (lkF C kf_P_112) d_P_variable_81 ?_
      refine hg_l C hW 1 5 (hW.fx 1 rfl) rfl q_X (by decide) rfl (lkN C kf_P_165) d_P_variable_84 ?_
      obtain ⟨g8, h⟩ := gd_some h
      obtain ⟨S9, eS9, h⟩ := lt_some h
      refine hp_l C hW hS x3 6 g8.2 g8.1 q_N (by decide) rfl rfl rfl (lkN C kf_P_266) eS9 d_P_variable_87 (fun H locs hW hS => ?_)
      refine lv_aload_n hx hb d_P_variable_90 rfl (lv_at hl 3 rfl) ?_
      refine lv_aload_n hx hb d_P_variable_91 rfl (lv_at hl 0 rfl) ?_
      refine hg_r (j := 1) C hW 0 0 (hW.fx 0 rfl) rfl q_P (by decide) rfl (hW.fn (E := E1) (i := 0) (k := 0) rfl) (lkF C kf_P_112) d_P_variable_92 ?_
      refine hg_i C hW 1 4 (hW.fx 1 rfl) rfl q_X (by decide) rfl (lkN C kf_P_161) d_P_variable_95 ?_
      obtain ⟨g10, h⟩ := gd_some h
      obtain ⟨S11, eS11, h⟩ := lt_some h
      refine hp_i C hW hS x3 8 g10.2 g10.1 q_N (by decide) rfl rfl rfl (lkN C kf_P_272) eS11 d_P_variable_98 (fun H locs hW hS => ?_)
      exact w_P_variable_101 C n x1 h hW hS (lv_sub hl [0, 1] rfl)
    · have h := ite_f c51 h
      refine lv_aload_n hx hb d_P_variable_54 rfl (lv_at hl 3 rfl) ?_
      refine lv_aload_n hx hb d_P_variable_55 rfl (lv_at hl 0 rfl) ?_
      refine hg_r (j := 1) C hW 0 0 (hW.fx 0 rfl) rfl q_P (by decide) rfl (hW.fn (E := E1) (i := 0) (k := 0) rfl) (lkF C kf_P_112) d_P_variable_56 ?_
      refine hg_l C hW 1 5 (hW.fx 1 rfl) rfl q_X (by decide) rfl (lkN C kf_P_165) d_P_variable_59 ?_
      obtain ⟨g12, h⟩ := gd_some h
      obtain ⟨S13, eS13, h⟩ := lt_some h
      refine hp_l C hW hS x3 7 g12.2 g12.1 q_N (by decide) rfl rfl rfl (lkN C kf_P_269) eS13 d_P_variable_62 (fun H locs hW hS => ?_)
      refine lv_aload_n hx hb d_P_variable_65 rfl (lv_at hl 3 rfl) ?_
      refine lv_aload_n hx hb d_P_variable_66 rfl (lv_at hl 0 rfl) ?_
      refine hg_r (j := 1) C hW 0 0 (hW.fx 0 rfl) rfl q_P (by decide) rfl (hW.fn (E := E1) (i := 0) (k := 0) rfl) (lkF C kf_P_112) d_P_variable_67 ?_
      refine hg_i C hW 1 4 (hW.fx 1 rfl) rfl q_X (by decide) rfl (lkN C kf_P_161) d_P_variable_70 ?_
      obtain ⟨g14, h⟩ := gd_some h
      obtain ⟨S15, eS15, h⟩ := lt_some h
      refine hp_i C hW hS x3 9 g14.2 g14.1 q_N (by decide) rfl rfl rfl (lkN C kf_P_275) eS15 d_P_variable_73 (fun H locs hW hS => ?_)
      refine lv_goto (tgt := 101) hx hb d_P_variable_76 (by decide) ?_
      exact w_P_variable_101 C n x1 h hW hS (lv_sub hl [0, 1] rfl)
  · have h := ite_t c42 h
    exact w_P_variable_45 C n h hW hS (lv_sub hl [0] rfl)
set_option maxHeartbeats 4000000 in
set_option maxRecDepth 100000 in
theorem s_P_variable (n : Nat) (x1 : Nat) (x2 : Int32) {S : HS} {S' : HS} (h : f_P_variable n x1 x2 S = some S') : Met l y_P_variable (.code y_P_variable b_P_variable 4 none :: lw_g) (rmD 8 0 0) (PcH D cA z ac E1 ad [.ref (ad 0), .ref (ad x1), .int (x2)] S) (QN D cA z ac E1 ad none S') 0 0 (zA z) := by
  refine Met.ofH (own := "TwoLevelParser") (by decide) rfl (Nat.le_of_ble_eq_true rfl) ?_
  intro p e s m args below meth c H ls C hW hS hl
  have hl : lv_has ls 4 [(0, .ref (ad 0)), (1, .ref (ad x1)), (2, .int (x2))] := hl
  obtain ⟨⟨hx, hb, hml, hown, hts⟩, hK, hr, hlo⟩ := id C
  unfold f_P_variable at h
  refine lv_aload_n hx hb d_P_variable_0 rfl (lv_at hl 0 rfl) ?_
  refine hg_r (j := 3) C hW 0 1 (hW.fx 0 rfl) rfl q_P (by decide) rfl (hW.fn (E := E1) (i := 0) (k := 1) rfl) (lkF C kf_P_118) d_P_variable_1 ?_
  refine lv_aload_n hx hb d_P_variable_4 rfl (lv_at hl 1 rfl) ?_
  obtain ⟨g1, h⟩ := gd_some h
  refine hg_i C hW x1 0 g1.2 g1.1 q_O (by decide) rfl (lkN C kf_P_262) d_P_variable_5 ?_
  obtain ⟨g2, h⟩ := gd_some h
  obtain ⟨j3, ej3, h⟩ := ob_some h
  refine ha_r (t := 3) (ck := 13) (j := j3) C hW 3 (hW.fx 3 rfl) rfl (by decide) rfl rfl g2 ej3 d_P_variable_8 ?_
  refine lv_astore_n (lv' := [(3, .ref (ad j3)), (0, .ref (ad 0)), (1, .ref (ad x1)), (2, .int (x2))]) hx hb d_P_variable_9 rfl hl (by decide) rfl (fun ls hl => ?_)
  refine lv_aload_n hx hb d_P_variable_10 rfl (lv_at hl 1 rfl) ?_
  obtain ⟨r4, er4, h⟩ := ob_some h
  refine hx_V (i := 0) (As := []) (rest := []) C hW hS (s_P_isName n er4) km_P_209 kv_P_isName ke_P_isName kn_P kw_P_isName kd_P_isName (hW.fx 0 rfl) rfl q_P rfl ⟨by decide, by decide⟩ ⟨Nat.zero_le _, Nat.zero_le _⟩ rfl hl.1 rfl (Nat.le_of_ble_eq_true rfl) d_P_variable_11 (fun H locs hW hS => ?_)
  refine lv_if_eq (tgt := 45) hx hb d_P_variable_14 (by decide) (fun c14 => ?_) (fun c14 => ?_)
  · have h := ite_t c14 h
    exact w_P_variable_45 C n h hW hS (lv_sub hl [1] rfl)
  · have h := ite_f c14 h
    refine lv_iload_n hx hb d_P_variable_17 rfl (lv_at hl 3 rfl) ?_
    refine lv_if_eq (tgt := 36) hx hb d_P_variable_18 (by decide) (fun c18 => ?_) (fun c18 => ?_)
    · have h := ite_t c18 h
      exact w_P_variable_36 C n x1 x2 j3 h hW hS (lv_sub hl [1, 2, 3, 0] rfl)
    · have h := ite_f c18 h
      refine lv_aload_n hx hb d_P_variable_21 rfl (lv_at hl 1 rfl) ?_
      refine hg_r (j := 1) C hW 0 0 (hW.fx 0 rfl) rfl q_P (by decide) rfl (hW.fn (E := E1) (i := 0) (k := 0) rfl) (lkF C kf_P_112) d_P_variable_22 ?_
      refine hg_l C hW 1 5 (hW.fx 1 rfl) rfl q_X (by decide) rfl (lkN C kf_P_165) d_P_variable_25 ?_
      refine lv_aload_n hx hb d_P_variable_28 rfl (lv_at hl 0 rfl) ?_
      obtain ⟨g5, h⟩ := gd_some h
      refine hg_l C hW j3 6 g5.2 g5.1 q_N (by decide) rfl (lkN C kf_P_266) d_P_variable_29 ?_
      refine W.lcmp hx hb d_P_variable_32 ?_
      refine lv_if_eq (tgt := 45) hx hb d_P_variable_33 (by decide) (fun c33 => ?_) (fun c33 => ?_)
      · have h := ite_t c33 h
        exact w_P_variable_45 C n h hW hS (lv_sub hl [1] rfl)
      · have h := ite_f c33 h
        exact w_P_variable_36 C n x1 x2 j3 h hW hS (lv_sub hl [1, 2, 3, 0] rfl)
end WK
def f_P_function (n : Nat) (x1 : Nat) (S : HS) : Option HS :=
  ob (f_P_isName n S) fun r1 =>
  (if r1 = 0 then
  ob (f_P_refuse S) fun S7 =>
  some S7
  else
  gd (kd x1 = 3 ∧ gD S x1 = true) <|
  lt (sL S x1 6 (gL S 1 5)) fun S3 =>
  gd (kd x1 = 3 ∧ gD S3 x1 = true) <|
  lt (sF S3 x1 8 (gF S3 1 4)) fun S5 =>
  ob (f_X_next n S5) fun S6 =>
  some S6)
section WK
variable {p : Program} {l : Launch} {e : Env} {s : State} {m : MethodId} {args : Array Value} {below : List Frame} {meth : Method} {c : Code} {D : va_G} {cA : Nat → ClassId} {z : Nat} {ac : Nat → Nat} {ad : Nat → Nat}
set_option maxHeartbeats 4000000 in
set_option maxRecDepth 100000 in
theorem s_P_function (n : Nat) (x1 : Nat) {S : HS} {S' : HS} (h : f_P_function n x1 S = some S') : Met l y_P_function (.code y_P_function b_P_function 2 none :: lw_g) (rmD 8 0 0) (PcH D cA z ac E1 ad [.ref (ad 0), .ref (ad x1)] S) (QN D cA z ac E1 ad none S') 0 0 (zA z) := by
  refine Met.ofH (own := "TwoLevelParser") (by decide) rfl (Nat.le_of_ble_eq_true rfl) ?_
  intro p e s m args below meth c H ls C hW hS hl
  have hl : lv_has ls 2 [(0, .ref (ad 0)), (1, .ref (ad x1))] := hl
  obtain ⟨⟨hx, hb, hml, hown, hts⟩, hK, hr, hlo⟩ := id C
  unfold f_P_function at h
  refine lv_aload_n hx hb d_P_function_0 rfl (lv_at hl 0 rfl) ?_
  obtain ⟨r1, er1, h⟩ := ob_some h
  refine hx_V (i := 0) (As := []) (rest := []) C hW hS (s_P_isName n er1) km_P_209 kv_P_isName ke_P_isName kn_P kw_P_isName kd_P_isName (hW.fx 0 rfl) rfl q_P rfl ⟨by decide, by decide⟩ ⟨Nat.zero_le _, Nat.zero_le _⟩ rfl hl.1 rfl (Nat.le_of_ble_eq_true rfl) d_P_function_1 (fun H locs hW hS => ?_)
  refine lv_if_ne (tgt := 12) hx hb d_P_function_4 (by decide) (fun c4 => ?_) (fun c4 => ?_)
  · have h := ite_f c4 h
    refine lv_aload_n hx hb d_P_function_12 rfl (lv_at hl 1 rfl) ?_
    refine lv_aload_n hx hb d_P_function_13 rfl (lv_at hl 0 rfl) ?_
    refine hg_r (j := 1) C hW 0 0 (hW.fx 0 rfl) rfl q_P (by decide) rfl (hW.fn (E := E1) (i := 0) (k := 0) rfl) (lkF C kf_P_112) d_P_function_14 ?_
    refine hg_l C hW 1 5 (hW.fx 1 rfl) rfl q_X (by decide) rfl (lkN C kf_P_165) d_P_function_17 ?_
    obtain ⟨g2, h⟩ := gd_some h
    obtain ⟨S3, eS3, h⟩ := lt_some h
    refine hp_l C hW hS x1 6 g2.2 g2.1 q_N (by decide) rfl rfl rfl (lkN C kf_P_266) eS3 d_P_function_20 (fun H locs hW hS => ?_)
    refine lv_aload_n hx hb d_P_function_23 rfl (lv_at hl 1 rfl) ?_
    refine lv_aload_n hx hb d_P_function_24 rfl (lv_at hl 0 rfl) ?_
    refine hg_r (j := 1) C hW 0 0 (hW.fx 0 rfl) rfl q_P (by decide) rfl (hW.fn (E := E1) (i := 0) (k := 0) rfl) (lkF C kf_P_112) d_P_function_25 ?_
    refine hg_i C hW 1 4 (hW.fx 1 rfl) rfl q_X (by decide) rfl (lkN C kf_P_161) d_P_function_28 ?_
    obtain ⟨g4, h⟩ := gd_some h
    obtain ⟨S5, eS5, h⟩ := lt_some h
    refine hp_i C hW hS x1 8 g4.2 g4.1 q_N (by decide) rfl rfl rfl (lkN C kf_P_272) eS5 d_P_function_31 (fun H locs hW hS => ?_)
    refine lv_aload_n hx hb d_P_function_34 rfl (lv_at hl 0 rfl) ?_
    refine hg_r (j := 1) C hW 0 0 (hW.fx 0 rfl) rfl q_P (by decide) rfl (hW.fn (E := E1) (i := 0) (k := 0) rfl) (lkF C kf_P_112) d_P_function_35 ?_
    obtain ⟨S6, eS6, h⟩ := ob_some h
    refine hx_V (i := 1) (As := []) (rest := []) C hW hS (s_X_next n eS6) km_P_172 kv_X_next ke_X_next kn_X kw_X_next kd_X_next (hW.fx 1 rfl) rfl q_X rfl ⟨by decide, by decide⟩ ⟨Nat.zero_le _, Nat.zero_le _⟩ rfl hl.1 rfl (Nat.le_of_ble_eq_true rfl) d_P_function_38 (fun H locs hW hS => ?_)
    have h := Option.some.inj h
    subst h
    exact he_v C hW hS d_P_function_41
  · have h := ite_t c4 h
    refine lv_aload_n hx hb d_P_function_7 rfl (lv_at hl 0 rfl) ?_
    obtain ⟨S7, eS7, h⟩ := ob_some h
    refine hx_V (i := 0) (As := []) (rest := []) C hW hS (s_P_refuse eS7) km_P_169 kv_P_refuse ke_P_refuse kn_P kw_P_refuse kd_P_refuse (hW.fx 0 rfl) rfl q_P rfl ⟨by decide, by decide⟩ ⟨Nat.zero_le _, Nat.zero_le _⟩ rfl hl.1 rfl (Nat.le_of_ble_eq_true rfl) d_P_function_8 (fun H locs hW hS => ?_)
    have h := Option.some.inj h
    subst h
    exact he_v C hW hS d_P_function_11
end WK
def f_P_close (n : Nat) (x1 : Nat) (S : HS) : Option HS :=
  ob (f_P_pass n 501 S) fun S1 =>
  (if (gF S1 0 7) = 0 then
  gd (kd x1 = 4 ∧ gD S1 x1 = true) <|
  gd (kd x1 = 4 ∧ gD S1 x1 = true) <|
  ob (gX S1 x1 1) fun j4 =>
  ob (f_Js_length j4) fun r5 =>
  (if (gF S1 x1 2) = r5 then
  gd (kd x1 = 4 ∧ gD S1 x1 = true) <|
  gd (inR (gF S1 x1 0) 4200) <|
  ob (gX S1 3 (gF S1 x1 0).toNatClampNeg) fun j8 =>
  gd (kd x1 = 4 ∧ gD S1 x1 = true) <|
  gd (kd j8 = 3 ∧ gD S1 j8 = true) <|
  lt (sF S1 j8 2 ((gF S1 0 2) - (gF S1 x1 0))) fun S11 =>
  lt (sF S11 0 6 ((gF S11 0 6) - (1 : Int32))) fun S12 =>
  some S12
  else
  some S1)
  else
  some S1)
section WK
variable {p : Program} {l : Launch} {e : Env} {s : State} {m : MethodId} {args : Array Value} {below : List Frame} {meth : Method} {c : Code} {D : va_G} {cA : Nat → ClassId} {z : Nat} {ac : Nat → Nat} {ad : Nat → Nat}
set_option maxHeartbeats 4000000 in
set_option maxRecDepth 100000 in
theorem s_P_close (n : Nat) (x1 : Nat) {S : HS} {S' : HS} (h : f_P_close n x1 S = some S') : Met l y_P_close (.code y_P_close b_P_close 2 none :: lw_g) (rmD 3 0 0) (PcH D cA z ac E1 ad [.ref (ad 0), .ref (ad x1)] S) (QN D cA z ac E1 ad none S') 0 0 (zA z) := by
  refine Met.ofH (own := "TwoLevelParser") (by decide) rfl (Nat.le_of_ble_eq_true rfl) ?_
  intro p e s m args below meth c H ls C hW hS hl
  have hl : lv_has ls 2 [(0, .ref (ad 0)), (1, .ref (ad x1))] := hl
  obtain ⟨⟨hx, hb, hml, hown, hts⟩, hK, hr, hlo⟩ := id C
  unfold f_P_close at h
  refine lv_aload_n hx hb d_P_close_0 rfl (lv_at hl 0 rfl) ?_
  refine hc_so (i := 1) C hW hS (by decide) kf_P_218 d_P_close_1 ?_
  obtain ⟨S1, eS1, h⟩ := ob_some h
  refine hx_V (i := 0) (As := [.ref (ad 501)]) (rest := []) C hW hS (s_P_pass n 501 eS1) km_P_205 kv_P_pass ke_P_pass kn_P kw_P_pass kd_P_pass (hW.fx 0 rfl) rfl q_P rfl ⟨by decide, by decide⟩ ⟨Nat.zero_le _, Nat.zero_le _⟩ rfl hl.1 rfl (Nat.le_of_ble_eq_true rfl) d_P_close_4 (fun H locs hW hS => ?_)
  refine lv_aload_n hx hb d_P_close_7 rfl (lv_at hl 0 rfl) ?_
  refine hg_i C hW 0 7 (hW.fx 0 rfl) rfl q_P (by decide) rfl (lkF C kf_P_146) d_P_close_8 ?_
  refine lv_if_ne (tgt := 59) hx hb d_P_close_11 (by decide) (fun c11 => ?_) (fun c11 => ?_)
  · have h := ite_f c11 h
    have h := Option.some.inj h
    subst h
    exact he_v C hW hS d_P_close_59
  · have h := ite_t c11 h
    refine lv_aload_n hx hb d_P_close_14 rfl (lv_at hl 1 rfl) ?_
    obtain ⟨g2, h⟩ := gd_some h
    refine hg_i C hW x1 2 g2.2 g2.1 q_O (by decide) rfl (lkN C kf_P_292) d_P_close_15 ?_
    refine lv_aload_n hx hb d_P_close_18 rfl (lv_at hl 1 rfl) ?_
    obtain ⟨g3, h⟩ := gd_some h
    obtain ⟨j4, ej4, h⟩ := ob_some h
    refine hg_r (j := j4) C hW x1 1 g3.2 g3.1 q_O (by decide) rfl ej4 (lkN C kf_P_288) d_P_close_19 ?_
    obtain ⟨r5, er5, h⟩ := ob_some h
    refine hx_len C hW hS er5 km_P_1 ⟨by decide, by decide⟩ ⟨Nat.zero_le _, Nat.zero_le _⟩ hl.1 (Nat.le_of_ble_eq_true rfl) d_P_close_22 (fun H locs hW hS => ?_)
    refine lv_icmp_ne (tgt := 59) hx hb d_P_close_25 (by decide) (fun c25 => ?_) (fun c25 => ?_)
    · have h := ite_f c25 h
      have h := Option.some.inj h
      subst h
      exact he_v C hW hS d_P_close_59
    · have h := ite_t c25 h
      refine lv_aload_n hx hb d_P_close_28 rfl (lv_at hl 0 rfl) ?_
      refine hg_r (j := 3) C hW 0 1 (hW.fx 0 rfl) rfl q_P (by decide) rfl (hW.fn (E := E1) (i := 0) (k := 1) rfl) (lkF C kf_P_118) d_P_close_29 ?_
      refine lv_aload_n hx hb d_P_close_32 rfl (lv_at hl 1 rfl) ?_
      obtain ⟨g6, h⟩ := gd_some h
      refine hg_i C hW x1 0 g6.2 g6.1 q_O (by decide) rfl (lkN C kf_P_262) d_P_close_33 ?_
      obtain ⟨g7, h⟩ := gd_some h
      obtain ⟨j8, ej8, h⟩ := ob_some h
      refine ha_r (t := 3) (ck := 13) (j := j8) C hW 3 (hW.fx 3 rfl) rfl (by decide) rfl rfl g7 ej8 d_P_close_36 ?_
      refine lv_aload_n hx hb d_P_close_37 rfl (lv_at hl 0 rfl) ?_
      refine hg_i C hW 0 2 (hW.fx 0 rfl) rfl q_P (by decide) rfl (lkF C kf_P_179) d_P_close_38 ?_
      refine lv_aload_n hx hb d_P_close_41 rfl (lv_at hl 1 rfl) ?_
      obtain ⟨g9, h⟩ := gd_some h
      refine hg_i C hW x1 0 g9.2 g9.1 q_O (by decide) rfl (lkN C kf_P_262) d_P_close_42 ?_
      refine lv_isub hx hb d_P_close_45 ?_
      obtain ⟨g10, h⟩ := gd_some h
      obtain ⟨S11, eS11, h⟩ := lt_some h
      refine hp_i C hW hS j8 2 g10.2 g10.1 q_N (by decide) rfl rfl rfl (lkN C kf_P_252) eS11 d_P_close_46 (fun H locs hW hS => ?_)
      refine lv_aload_n hx hb d_P_close_49 rfl (lv_at hl 0 rfl) ?_
      refine lv_dup hx hb d_P_close_50 rfl ?_
      refine hg_i C hW 0 6 (hW.fx 0 rfl) rfl q_P (by decide) rfl (lkF C kf_P_259) d_P_close_51 ?_
      refine lv_iconst (v := 1) hx hb d_P_close_54 (by decide) ?_
      refine lv_isub hx hb d_P_close_55 ?_
      obtain ⟨S12, eS12, h⟩ := lt_some h
      refine hp_i C hW hS 0 6 (hW.fx 0 rfl) rfl q_P (by decide) rfl rfl rfl (lkF C kf_P_259) eS12 d_P_close_56 (fun H locs hW hS => ?_)
      have h := Option.some.inj h
      subst h
      exact he_v C hW hS d_P_close_59
end WK
def f_P_definition (x1 : Int32) (x2 : Int32) (S : HS) : Option Int32 :=
  (if x1 < 0 then
  some (-1 : Int32)
  else
  (if x1 < (gF S 0 4) then
  gd (inR x1 64) <|
  (if x2 = (0 : Int32) then
  gd (kd (6 + 3 * x1.toNatClampNeg) = 2 ∧ gD S (6 + 3 * x1.toNatClampNeg) = true) <|
  (if (gF S (6 + 3 * x1.toNatClampNeg) 0) = 0 then
  some (0 : Int32)
  else
  some (1 : Int32))
  else
  (if x2 = (1 : Int32) then
  gd (kd (6 + 3 * x1.toNatClampNeg) = 2 ∧ gD S (6 + 3 * x1.toNatClampNeg) = true) <|
  some (gF S (6 + 3 * x1.toNatClampNeg) 1)
  else
  (if x2 = (2 : Int32) then
  gd (kd (6 + 3 * x1.toNatClampNeg) = 2 ∧ gD S (6 + 3 * x1.toNatClampNeg) = true) <|
  some (gF S (6 + 3 * x1.toNatClampNeg) 2)
  else
  (if x2 = (3 : Int32) then
  gd (kd (6 + 3 * x1.toNatClampNeg) = 2 ∧ gD S (6 + 3 * x1.toNatClampNeg) = true) <|
  some (gF S (6 + 3 * x1.toNatClampNeg) 3)
  else
  (if x2 = (4 : Int32) then
  gd (kd (6 + 3 * x1.toNatClampNeg) = 2 ∧ gD S (6 + 3 * x1.toNatClampNeg) = true) <|
  some (gF S (6 + 3 * x1.toNatClampNeg) 5)
  else
  some (-1 : Int32))))))
  else
  some (-1 : Int32)))
section WK
variable {p : Program} {l : Launch} {e : Env} {s : State} {m : MethodId} {args : Array Value} {below : List Frame} {meth : Method} {c : Code} {D : va_G} {cA : Nat → ClassId} {z : Nat} {ac : Nat → Nat} {ad : Nat → Nat}
set_option maxHeartbeats 4000000 in
set_option maxRecDepth 100000 in
theorem s_P_definition (x1 : Int32) (x2 : Int32) {S : HS} {r : Int32} (h : f_P_definition x1 x2 S = some r) : Met l y_P_definition (.code y_P_definition b_P_definition 4 (some .int) :: lw_g) (rmD 0 0 0) (PcH D cA z ac E1 ad [.ref (ad 0), .int (x1), .int (x2)] S) (QN D cA z ac E1 ad (some (.int r)) S) 0 0 (zA z) := by
  refine Met.ofH (own := "TwoLevelParser") (by decide) rfl (Nat.le_of_ble_eq_true rfl) ?_
  intro p e s m args below meth c H ls C hW hS hl
  have hl : lv_has ls 4 [(0, .ref (ad 0)), (1, .int (x1)), (2, .int (x2))] := hl
  obtain ⟨⟨hx, hb, hml, hown, hts⟩, hK, hr, hlo⟩ := id C
  unfold f_P_definition at h
  refine lv_iload_n hx hb d_P_definition_0 rfl (lv_at hl 1 rfl) ?_
  refine lv_if_lt (tgt := 12) hx hb d_P_definition_1 (by decide) (fun c1 => ?_) (fun c1 => ?_)
  · have h := ite_t c1 h
    refine lv_iconst (v := -1) hx hb d_P_definition_12 (by decide) ?_
    have h := Option.some.inj h
    subst h
    exact he_i C hW hS d_P_definition_13
  · have h := ite_f c1 h
    refine lv_iload_n hx hb d_P_definition_4 rfl (lv_at hl 1 rfl) ?_
    refine lv_aload_n hx hb d_P_definition_5 rfl (lv_at hl 0 rfl) ?_
    refine hg_i C hW 0 4 (hW.fx 0 rfl) rfl q_P (by decide) rfl (lkF C kf_P_182) d_P_definition_6 ?_
    refine lv_icmp_lt (tgt := 14) hx hb d_P_definition_9 (by decide) (fun c9 => ?_) (fun c9 => ?_)
    · have h := ite_t c9 h
      refine lv_aload_n hx hb d_P_definition_14 rfl (lv_at hl 0 rfl) ?_
      refine hg_r (j := 4) C hW 0 3 (hW.fx 0 rfl) rfl q_P (by decide) rfl (hW.fn (E := E1) (i := 0) (k := 3) rfl) (lkF C kf_P_124) d_P_definition_15 ?_
      refine lv_iload_n hx hb d_P_definition_18 rfl (lv_at hl 1 rfl) ?_
      obtain ⟨g1, h⟩ := gd_some h
      refine ha_r (t := 4) (ck := 14) (j := (6 + 3 * x1.toNatClampNeg)) C hW 4 (hW.fx 4 rfl) rfl (by decide) rfl rfl g1 (hW.fn (E := E1) (finA (ha_lt g1))) d_P_definition_19 ?_
      refine lv_astore_n (lv' := [(3, .ref (ad ((6 + 3 * x1.toNatClampNeg)))), (0, .ref (ad 0)), (1, .int (x1)), (2, .int (x2))]) hx hb d_P_definition_20 rfl hl (by decide) rfl (fun ls hl => ?_)
      refine lv_iload_n hx hb d_P_definition_21 rfl (lv_at hl 3 rfl) ?_
      by_cases c22_0 : x2 = (0 : Int32)
      · have h := ite_t c22_0 h
        refine lv_tableIn (off := 34) (tgt := 56) hx hb d_P_definition_22 (by rw [c22_0]; decide) (by rw [c22_0]; decide) (by rw [c22_0]; rfl) (by decide) ?_
        refine lv_aload_n hx hb d_P_definition_56 rfl (lv_at hl 0 rfl) ?_
        obtain ⟨g2, h⟩ := gd_some h
        refine hg_i C hW (6 + 3 * x1.toNatClampNeg) 0 g2.2 g2.1 q_D (by decide) rfl (lkN C kf_P_201) d_P_definition_57 ?_
        refine lv_if_eq (tgt := 67) hx hb d_P_definition_60 (by decide) (fun c60 => ?_) (fun c60 => ?_)
        · have h := ite_t c60 h
          refine lv_iconst (v := 0) hx hb d_P_definition_67 (by decide) ?_
          have h := Option.some.inj h
          subst h
          exact he_i C hW hS d_P_definition_68
        · have h := ite_f c60 h
          refine lv_iconst (v := 1) hx hb d_P_definition_63 (by decide) ?_
          refine lv_goto (tgt := 68) hx hb d_P_definition_64 (by decide) ?_
          have h := Option.some.inj h
          subst h
          exact he_i C hW hS d_P_definition_68
      · have h := ite_f c22_0 h
        by_cases c22_1 : x2 = (1 : Int32)
        · have h := ite_t c22_1 h
          refine lv_tableIn (off := 47) (tgt := 69) hx hb d_P_definition_22 (by rw [c22_1]; decide) (by rw [c22_1]; decide) (by rw [c22_1]; rfl) (by decide) ?_
          refine lv_aload_n hx hb d_P_definition_69 rfl (lv_at hl 0 rfl) ?_
          obtain ⟨g3, h⟩ := gd_some h
          refine hg_i C hW (6 + 3 * x1.toNatClampNeg) 1 g3.2 g3.1 q_D (by decide) rfl (lkN C kf_P_229) d_P_definition_70 ?_
          have h := Option.some.inj h
          subst h
          exact he_i C hW hS d_P_definition_73
        · have h := ite_f c22_1 h
          by_cases c22_2 : x2 = (2 : Int32)
          · have h := ite_t c22_2 h
            refine lv_tableIn (off := 52) (tgt := 74) hx hb d_P_definition_22 (by rw [c22_2]; decide) (by rw [c22_2]; decide) (by rw [c22_2]; rfl) (by decide) ?_
            refine lv_aload_n hx hb d_P_definition_74 rfl (lv_at hl 0 rfl) ?_
            obtain ⟨g4, h⟩ := gd_some h
            refine hg_i C hW (6 + 3 * x1.toNatClampNeg) 2 g4.2 g4.1 q_D (by decide) rfl (lkN C kf_P_217) d_P_definition_75 ?_
            have h := Option.some.inj h
            subst h
            exact he_i C hW hS d_P_definition_78
          · have h := ite_f c22_2 h
            by_cases c22_3 : x2 = (3 : Int32)
            · have h := ite_t c22_3 h
              refine lv_tableIn (off := 57) (tgt := 79) hx hb d_P_definition_22 (by rw [c22_3]; decide) (by rw [c22_3]; decide) (by rw [c22_3]; rfl) (by decide) ?_
              refine lv_aload_n hx hb d_P_definition_79 rfl (lv_at hl 0 rfl) ?_
              obtain ⟨g5, h⟩ := gd_some h
              refine hg_i C hW (6 + 3 * x1.toNatClampNeg) 3 g5.2 g5.1 q_D (by decide) rfl (lkN C kf_P_231) d_P_definition_80 ?_
              have h := Option.some.inj h
              subst h
              exact he_i C hW hS d_P_definition_83
            · have h := ite_f c22_3 h
              by_cases c22_4 : x2 = (4 : Int32)
              · have h := ite_t c22_4 h
                refine lv_tableIn (off := 62) (tgt := 84) hx hb d_P_definition_22 (by rw [c22_4]; decide) (by rw [c22_4]; decide) (by rw [c22_4]; rfl) (by decide) ?_
                refine lv_aload_n hx hb d_P_definition_84 rfl (lv_at hl 0 rfl) ?_
                obtain ⟨g6, h⟩ := gd_some h
                refine hg_i C hW (6 + 3 * x1.toNatClampNeg) 5 g6.2 g6.1 q_D (by decide) rfl (lkN C kf_P_216) d_P_definition_85 ?_
                have h := Option.some.inj h
                subst h
                exact he_i C hW hS d_P_definition_88
              · have h := ite_f c22_4 h
                refine lv_tableOut (tgt := 89) hx hb d_P_definition_22 (by have := lv_neT c22_0 (show ((0 : Int32)).toInt = 0 by decide); have := lv_neT c22_1 (show ((1 : Int32)).toInt = 1 by decide); have := lv_neT c22_2 (show ((2 : Int32)).toInt = 2 by decide); have := lv_neT c22_3 (show ((3 : Int32)).toInt = 3 by decide); have := lv_neT c22_4 (show ((4 : Int32)).toInt = 4 by decide); omega) (by decide) ?_
                refine lv_iconst (v := -1) hx hb d_P_definition_89 (by decide) ?_
                have h := Option.some.inj h
                subst h
                exact he_i C hW hS d_P_definition_90
    · have h := ite_f c9 h
      refine lv_iconst (v := -1) hx hb d_P_definition_12 (by decide) ?_
      have h := Option.some.inj h
      subst h
      exact he_i C hW hS d_P_definition_13
end WK
def f_P_title (x1 : Int32) (x2 : Int32) (S : HS) : Option Int64 :=
  (if x1 < 0 then
  some (0 : Int64)
  else
  (if (gF S 0 4) ≤ x1 then
  some (0 : Int64)
  else
  (if x2 < (-1 : Int32) then
  some (0 : Int64)
  else
  gd (inR x1 64) <|
  gd (kd (6 + 3 * x1.toNatClampNeg) = 2 ∧ gD S (6 + 3 * x1.toNatClampNeg) = true) <|
  (if x2 < (gF S (6 + 3 * x1.toNatClampNeg) 2) then
  (if 0 ≤ x2 then
  gd (inR x1 64) <|
  gd (kd (6 + 3 * x1.toNatClampNeg) = 2 ∧ gD S (6 + 3 * x1.toNatClampNeg) = true) <|
  gd (kd ((6 + 3 * x1.toNatClampNeg) + 1) = 12 ∧ gD S ((6 + 3 * x1.toNatClampNeg) + 1) = true ∧ ln ((6 + 3 * x1.toNatClampNeg) + 1) = 8) <|
  gd (inR x2 8) <|
  some (gL S ((6 + 3 * x1.toNatClampNeg) + 1) x2.toNatClampNeg)
  else
  gd (inR x1 64) <|
  gd (kd (6 + 3 * x1.toNatClampNeg) = 2 ∧ gD S (6 + 3 * x1.toNatClampNeg) = true) <|
  some (gL S (6 + 3 * x1.toNatClampNeg) 4))
  else
  some (0 : Int64)))))
section WK
variable {p : Program} {l : Launch} {e : Env} {s : State} {m : MethodId} {args : Array Value} {below : List Frame} {meth : Method} {c : Code} {D : va_G} {cA : Nat → ClassId} {z : Nat} {ac : Nat → Nat} {ad : Nat → Nat}
set_option maxHeartbeats 4000000 in
set_option maxRecDepth 100000 in
theorem s_P_title (x1 : Int32) (x2 : Int32) {S : HS} {r : Int64} (h : f_P_title x1 x2 S = some r) : Met l y_P_title (.code y_P_title b_P_title 3 (some .long) :: lw_g) (rmD 0 0 0) (PcH D cA z ac E1 ad [.ref (ad 0), .int (x1), .int (x2)] S) (QN D cA z ac E1 ad (some (.long r)) S) 0 0 (zA z) := by
  refine Met.ofH (own := "TwoLevelParser") (by decide) rfl (Nat.le_of_ble_eq_true rfl) ?_
  intro p e s m args below meth c H ls C hW hS hl
  have hl : lv_has ls 3 [(0, .ref (ad 0)), (1, .int (x1)), (2, .int (x2))] := hl
  obtain ⟨⟨hx, hb, hml, hown, hts⟩, hK, hr, hlo⟩ := id C
  unfold f_P_title at h
  refine lv_iload_n hx hb d_P_title_0 rfl (lv_at hl 1 rfl) ?_
  refine lv_if_lt (tgt := 30) hx hb d_P_title_1 (by decide) (fun c1 => ?_) (fun c1 => ?_)
  · have h := ite_t c1 h
    refine lv_lconst (v := 0) hx hb d_P_title_30 (by decide) ?_
    have h := Option.some.inj h
    subst h
    exact he_l C hW hS d_P_title_31
  · have h := ite_f c1 h
    refine lv_iload_n hx hb d_P_title_4 rfl (lv_at hl 1 rfl) ?_
    refine lv_aload_n hx hb d_P_title_5 rfl (lv_at hl 0 rfl) ?_
    refine hg_i C hW 0 4 (hW.fx 0 rfl) rfl q_P (by decide) rfl (lkF C kf_P_182) d_P_title_6 ?_
    refine lv_icmp_ge (tgt := 30) hx hb d_P_title_9 (by decide) (fun c9 => ?_) (fun c9 => ?_)
    · have h := ite_t c9 h
      refine lv_lconst (v := 0) hx hb d_P_title_30 (by decide) ?_
      have h := Option.some.inj h
      subst h
      exact he_l C hW hS d_P_title_31
    · have h := ite_f c9 h
      refine lv_iload_n hx hb d_P_title_12 rfl (lv_at hl 2 rfl) ?_
      refine lv_iconst (v := -1) hx hb d_P_title_13 (by decide) ?_
      refine lv_icmp_lt (tgt := 30) hx hb d_P_title_14 (by decide) (fun c14 => ?_) (fun c14 => ?_)
      · have h := ite_t c14 h
        refine lv_lconst (v := 0) hx hb d_P_title_30 (by decide) ?_
        have h := Option.some.inj h
        subst h
        exact he_l C hW hS d_P_title_31
      · have h := ite_f c14 h
        refine lv_iload_n hx hb d_P_title_17 rfl (lv_at hl 2 rfl) ?_
        refine lv_aload_n hx hb d_P_title_18 rfl (lv_at hl 0 rfl) ?_
        refine hg_r (j := 4) C hW 0 3 (hW.fx 0 rfl) rfl q_P (by decide) rfl (hW.fn (E := E1) (i := 0) (k := 3) rfl) (lkF C kf_P_124) d_P_title_19 ?_
        refine lv_iload_n hx hb d_P_title_22 rfl (lv_at hl 1 rfl) ?_
        obtain ⟨g1, h⟩ := gd_some h
        refine ha_r (t := 4) (ck := 14) (j := (6 + 3 * x1.toNatClampNeg)) C hW 4 (hW.fx 4 rfl) rfl (by decide) rfl rfl g1 (hW.fn (E := E1) (finA (ha_lt g1))) d_P_title_23 ?_
        obtain ⟨g2, h⟩ := gd_some h
        refine hg_i C hW (6 + 3 * x1.toNatClampNeg) 2 g2.2 g2.1 q_D (by decide) rfl (lkN C kf_P_217) d_P_title_24 ?_
        refine lv_icmp_lt (tgt := 32) hx hb d_P_title_27 (by decide) (fun c27 => ?_) (fun c27 => ?_)
        · have h := ite_t c27 h
          refine lv_iload_n hx hb d_P_title_32 rfl (lv_at hl 2 rfl) ?_
          refine lv_if_ge (tgt := 48) hx hb d_P_title_33 (by decide) (fun c33 => ?_) (fun c33 => ?_)
          · have h := ite_t c33 h
            refine lv_aload_n hx hb d_P_title_48 rfl (lv_at hl 0 rfl) ?_
            refine hg_r (j := 4) C hW 0 3 (hW.fx 0 rfl) rfl q_P (by decide) rfl (hW.fn (E := E1) (i := 0) (k := 3) rfl) (lkF C kf_P_124) d_P_title_49 ?_
            refine lv_iload_n hx hb d_P_title_52 rfl (lv_at hl 1 rfl) ?_
            obtain ⟨g3, h⟩ := gd_some h
            refine ha_r (t := 4) (ck := 14) (j := (6 + 3 * x1.toNatClampNeg)) C hW 4 (hW.fx 4 rfl) rfl (by decide) rfl rfl g3 (hW.fn (E := E1) (finA (ha_lt g3))) d_P_title_53 ?_
            obtain ⟨g4, h⟩ := gd_some h
            refine hg_r (j := ((6 + 3 * x1.toNatClampNeg) + 1)) C hW (6 + 3 * x1.toNatClampNeg) 6 g4.2 g4.1 q_D (by decide) rfl (hW.fn (E := E1) (finD6 g4.1)) (lkN C kf_P_237) d_P_title_54 ?_
            refine lv_iload_n hx hb d_P_title_57 rfl (lv_at hl 2 rfl) ?_
            obtain ⟨g5, h⟩ := gd_some h
            obtain ⟨g6, h⟩ := gd_some h
            refine ha_l C hW ((6 + 3 * x1.toNatClampNeg) + 1) g5.2.1 g5.1 g5.2.2 g6 d_P_title_58 ?_
            have h := Option.some.inj h
            subst h
            exact he_l C hW hS d_P_title_59
          · have h := ite_f c33 h
            refine lv_aload_n hx hb d_P_title_36 rfl (lv_at hl 0 rfl) ?_
            refine hg_r (j := 4) C hW 0 3 (hW.fx 0 rfl) rfl q_P (by decide) rfl (hW.fn (E := E1) (i := 0) (k := 3) rfl) (lkF C kf_P_124) d_P_title_37 ?_
            refine lv_iload_n hx hb d_P_title_40 rfl (lv_at hl 1 rfl) ?_
            obtain ⟨g7, h⟩ := gd_some h
            refine ha_r (t := 4) (ck := 14) (j := (6 + 3 * x1.toNatClampNeg)) C hW 4 (hW.fx 4 rfl) rfl (by decide) rfl rfl g7 (hW.fn (E := E1) (finA (ha_lt g7))) d_P_title_41 ?_
            obtain ⟨g8, h⟩ := gd_some h
            refine hg_l C hW (6 + 3 * x1.toNatClampNeg) 4 g8.2 g8.1 q_D (by decide) rfl (lkN C kf_P_194) d_P_title_42 ?_
            refine lv_goto (tgt := 59) hx hb d_P_title_45 (by decide) ?_
            have h := Option.some.inj h
            subst h
            exact he_l C hW hS d_P_title_59
        · have h := ite_f c27 h
          refine lv_lconst (v := 0) hx hb d_P_title_30 (by decide) ?_
          have h := Option.some.inj h
          subst h
          exact he_l C hW hS d_P_title_31
end WK
def f_P_parameter (x1 : Int32) (x2 : Int32) (S : HS) : Option Int32 :=
  (if x1 < 0 then
  some (-1 : Int32)
  else
  (if (gF S 0 4) ≤ x1 then
  some (-1 : Int32)
  else
  (if x2 < 0 then
  some (-1 : Int32)
  else
  gd (inR x1 64) <|
  gd (kd (6 + 3 * x1.toNatClampNeg) = 2 ∧ gD S (6 + 3 * x1.toNatClampNeg) = true) <|
  (if x2 < (gF S (6 + 3 * x1.toNatClampNeg) 2) then
  gd (inR x1 64) <|
  gd (kd (6 + 3 * x1.toNatClampNeg) = 2 ∧ gD S (6 + 3 * x1.toNatClampNeg) = true) <|
  gd (kd ((6 + 3 * x1.toNatClampNeg) + 2) = 11 ∧ gD S ((6 + 3 * x1.toNatClampNeg) + 2) = true ∧ ln ((6 + 3 * x1.toNatClampNeg) + 2) = 8) <|
  gd (inR x2 8) <|
  some (gF S ((6 + 3 * x1.toNatClampNeg) + 2) x2.toNatClampNeg)
  else
  some (-1 : Int32)))))
section WK
variable {p : Program} {l : Launch} {e : Env} {s : State} {m : MethodId} {args : Array Value} {below : List Frame} {meth : Method} {c : Code} {D : va_G} {cA : Nat → ClassId} {z : Nat} {ac : Nat → Nat} {ad : Nat → Nat}
set_option maxHeartbeats 4000000 in
set_option maxRecDepth 100000 in
theorem s_P_parameter (x1 : Int32) (x2 : Int32) {S : HS} {r : Int32} (h : f_P_parameter x1 x2 S = some r) : Met l y_P_parameter (.code y_P_parameter b_P_parameter 3 (some .int) :: lw_g) (rmD 0 0 0) (PcH D cA z ac E1 ad [.ref (ad 0), .int (x1), .int (x2)] S) (QN D cA z ac E1 ad (some (.int r)) S) 0 0 (zA z) := by
  refine Met.ofH (own := "TwoLevelParser") (by decide) rfl (Nat.le_of_ble_eq_true rfl) ?_
  intro p e s m args below meth c H ls C hW hS hl
  have hl : lv_has ls 3 [(0, .ref (ad 0)), (1, .int (x1)), (2, .int (x2))] := hl
  obtain ⟨⟨hx, hb, hml, hown, hts⟩, hK, hr, hlo⟩ := id C
  unfold f_P_parameter at h
  refine lv_iload_n hx hb d_P_parameter_0 rfl (lv_at hl 1 rfl) ?_
  refine lv_if_lt (tgt := 29) hx hb d_P_parameter_1 (by decide) (fun c1 => ?_) (fun c1 => ?_)
  · have h := ite_t c1 h
    refine lv_iconst (v := -1) hx hb d_P_parameter_29 (by decide) ?_
    refine lv_goto (tgt := 44) hx hb d_P_parameter_30 (by decide) ?_
    have h := Option.some.inj h
    subst h
    exact he_i C hW hS d_P_parameter_44
  · have h := ite_f c1 h
    refine lv_iload_n hx hb d_P_parameter_4 rfl (lv_at hl 1 rfl) ?_
    refine lv_aload_n hx hb d_P_parameter_5 rfl (lv_at hl 0 rfl) ?_
    refine hg_i C hW 0 4 (hW.fx 0 rfl) rfl q_P (by decide) rfl (lkF C kf_P_182) d_P_parameter_6 ?_
    refine lv_icmp_ge (tgt := 29) hx hb d_P_parameter_9 (by decide) (fun c9 => ?_) (fun c9 => ?_)
    · have h := ite_t c9 h
      refine lv_iconst (v := -1) hx hb d_P_parameter_29 (by decide) ?_
      refine lv_goto (tgt := 44) hx hb d_P_parameter_30 (by decide) ?_
      have h := Option.some.inj h
      subst h
      exact he_i C hW hS d_P_parameter_44
    · have h := ite_f c9 h
      refine lv_iload_n hx hb d_P_parameter_12 rfl (lv_at hl 2 rfl) ?_
      refine lv_if_lt (tgt := 29) hx hb d_P_parameter_13 (by decide) (fun c13 => ?_) (fun c13 => ?_)
      · have h := ite_t c13 h
        refine lv_iconst (v := -1) hx hb d_P_parameter_29 (by decide) ?_
        refine lv_goto (tgt := 44) hx hb d_P_parameter_30 (by decide) ?_
        have h := Option.some.inj h
        subst h
        exact he_i C hW hS d_P_parameter_44
      · have h := ite_f c13 h
        refine lv_iload_n hx hb d_P_parameter_16 rfl (lv_at hl 2 rfl) ?_
        refine lv_aload_n hx hb d_P_parameter_17 rfl (lv_at hl 0 rfl) ?_
        refine hg_r (j := 4) C hW 0 3 (hW.fx 0 rfl) rfl q_P (by decide) rfl (hW.fn (E := E1) (i := 0) (k := 3) rfl) (lkF C kf_P_124) d_P_parameter_18 ?_
        refine lv_iload_n hx hb d_P_parameter_21 rfl (lv_at hl 1 rfl) ?_
        obtain ⟨g1, h⟩ := gd_some h
        refine ha_r (t := 4) (ck := 14) (j := (6 + 3 * x1.toNatClampNeg)) C hW 4 (hW.fx 4 rfl) rfl (by decide) rfl rfl g1 (hW.fn (E := E1) (finA (ha_lt g1))) d_P_parameter_22 ?_
        obtain ⟨g2, h⟩ := gd_some h
        refine hg_i C hW (6 + 3 * x1.toNatClampNeg) 2 g2.2 g2.1 q_D (by decide) rfl (lkN C kf_P_217) d_P_parameter_23 ?_
        refine lv_icmp_lt (tgt := 33) hx hb d_P_parameter_26 (by decide) (fun c26 => ?_) (fun c26 => ?_)
        · have h := ite_t c26 h
          refine lv_aload_n hx hb d_P_parameter_33 rfl (lv_at hl 0 rfl) ?_
          refine hg_r (j := 4) C hW 0 3 (hW.fx 0 rfl) rfl q_P (by decide) rfl (hW.fn (E := E1) (i := 0) (k := 3) rfl) (lkF C kf_P_124) d_P_parameter_34 ?_
          refine lv_iload_n hx hb d_P_parameter_37 rfl (lv_at hl 1 rfl) ?_
          obtain ⟨g3, h⟩ := gd_some h
          refine ha_r (t := 4) (ck := 14) (j := (6 + 3 * x1.toNatClampNeg)) C hW 4 (hW.fx 4 rfl) rfl (by decide) rfl rfl g3 (hW.fn (E := E1) (finA (ha_lt g3))) d_P_parameter_38 ?_
          obtain ⟨g4, h⟩ := gd_some h
          refine hg_r (j := ((6 + 3 * x1.toNatClampNeg) + 2)) C hW (6 + 3 * x1.toNatClampNeg) 7 g4.2 g4.1 q_D (by decide) rfl (hW.fn (E := E1) (finD7 g4.1)) (lkN C kf_P_241) d_P_parameter_39 ?_
          refine lv_iload_n hx hb d_P_parameter_42 rfl (lv_at hl 2 rfl) ?_
          obtain ⟨g5, h⟩ := gd_some h
          obtain ⟨g6, h⟩ := gd_some h
          refine ha_i C hW ((6 + 3 * x1.toNatClampNeg) + 2) g5.2.1 g5.1 g5.2.2 g6 d_P_parameter_43 ?_
          have h := Option.some.inj h
          subst h
          exact he_i C hW hS d_P_parameter_44
        · have h := ite_f c26 h
          refine lv_iconst (v := -1) hx hb d_P_parameter_29 (by decide) ?_
          refine lv_goto (tgt := 44) hx hb d_P_parameter_30 (by decide) ?_
          have h := Option.some.inj h
          subst h
          exact he_i C hW hS d_P_parameter_44
end WK
def f_P_isNode (x1 : Int32) (S : HS) : Option Int32 :=
  (if x1 < 0 then
  some (0 : Int32)
  else
  (if (gF S 0 2) ≤ x1 then
  some (0 : Int32)
  else
  some (1 : Int32)))
section WK
variable {p : Program} {l : Launch} {e : Env} {s : State} {m : MethodId} {args : Array Value} {below : List Frame} {meth : Method} {c : Code} {D : va_G} {cA : Nat → ClassId} {z : Nat} {ac : Nat → Nat} {ad : Nat → Nat}
set_option maxHeartbeats 4000000 in
set_option maxRecDepth 100000 in
theorem s_P_isNode (x1 : Int32) {S : HS} {r : Int32} (h : f_P_isNode x1 S = some r) : Met l y_P_isNode (.code y_P_isNode b_P_isNode 2 (some .boolean) :: lw_g) (rmD 0 0 0) (PcH D cA z ac E1 ad [.ref (ad 0), .int (x1)] S) (QN D cA z ac E1 ad (some (.int r)) S) 0 0 (zA z) := by
  refine Met.ofH (own := "TwoLevelParser") (by decide) rfl (Nat.le_of_ble_eq_true rfl) ?_
  intro p e s m args below meth c H ls C hW hS hl
  have hl : lv_has ls 2 [(0, .ref (ad 0)), (1, .int (x1))] := hl
  obtain ⟨⟨hx, hb, hml, hown, hts⟩, hK, hr, hlo⟩ := id C
  unfold f_P_isNode at h
  refine lv_iload_n hx hb d_P_isNode_0 rfl (lv_at hl 1 rfl) ?_
  refine lv_if_lt (tgt := 16) hx hb d_P_isNode_1 (by decide) (fun c1 => ?_) (fun c1 => ?_)
  · have h := ite_t c1 h
    refine lv_iconst (v := 0) hx hb d_P_isNode_16 (by decide) ?_
    have h := Option.some.inj h
    subst h
    exact he_z C hW hS (by decide) d_P_isNode_17
  · have h := ite_f c1 h
    refine lv_iload_n hx hb d_P_isNode_4 rfl (lv_at hl 1 rfl) ?_
    refine lv_aload_n hx hb d_P_isNode_5 rfl (lv_at hl 0 rfl) ?_
    refine hg_i C hW 0 2 (hW.fx 0 rfl) rfl q_P (by decide) rfl (lkF C kf_P_179) d_P_isNode_6 ?_
    refine lv_icmp_ge (tgt := 16) hx hb d_P_isNode_9 (by decide) (fun c9 => ?_) (fun c9 => ?_)
    · have h := ite_t c9 h
      refine lv_iconst (v := 0) hx hb d_P_isNode_16 (by decide) ?_
      have h := Option.some.inj h
      subst h
      exact he_z C hW hS (by decide) d_P_isNode_17
    · have h := ite_f c9 h
      refine lv_iconst (v := 1) hx hb d_P_isNode_12 (by decide) ?_
      refine lv_goto (tgt := 17) hx hb d_P_isNode_13 (by decide) ?_
      have h := Option.some.inj h
      subst h
      exact he_z C hW hS (by decide) d_P_isNode_17
end WK
def f_P_node (x1 : Int32) (x2 : Int32) (S : HS) : Option Int32 :=
  ob (f_P_isNode x1 S) fun r1 =>
  (if r1 = 0 then
  some (-1 : Int32)
  else
  gd (inR x1 4200) <|
  ob (gX S 3 x1.toNatClampNeg) fun j3 =>
  (if x2 = (0 : Int32) then
  gd (kd j3 = 3 ∧ gD S j3 = true) <|
  some (gF S j3 0)
  else
  (if x2 = (1 : Int32) then
  gd (kd j3 = 3 ∧ gD S j3 = true) <|
  some (gF S j3 1)
  else
  (if x2 = (2 : Int32) then
  gd (kd j3 = 3 ∧ gD S j3 = true) <|
  some (gF S j3 2)
  else
  (if x2 = (3 : Int32) then
  gd (kd j3 = 3 ∧ gD S j3 = true) <|
  some (gF S j3 3)
  else
  (if x2 = (4 : Int32) then
  gd (kd j3 = 3 ∧ gD S j3 = true) <|
  some (gF S j3 4)
  else
  (if x2 = (5 : Int32) then
  gd (kd j3 = 3 ∧ gD S j3 = true) <|
  some (gF S j3 8)
  else
  (if x2 = (6 : Int32) then
  gd (kd j3 = 3 ∧ gD S j3 = true) <|
  some (gF S j3 9)
  else
  (if x2 = (7 : Int32) then
  gd (kd j3 = 3 ∧ gD S j3 = true) <|
  some (gF S j3 5)
  else
  some (-1 : Int32))))))))))
section WK
variable {p : Program} {l : Launch} {e : Env} {s : State} {m : MethodId} {args : Array Value} {below : List Frame} {meth : Method} {c : Code} {D : va_G} {cA : Nat → ClassId} {z : Nat} {ac : Nat → Nat} {ad : Nat → Nat}
set_option maxHeartbeats 4000000 in
set_option maxRecDepth 100000 in
theorem s_P_node (x1 : Int32) (x2 : Int32) {S : HS} {r : Int32} (h : f_P_node x1 x2 S = some r) : Met l y_P_node (.code y_P_node b_P_node 4 (some .int) :: lw_g) (rmD 1 0 0) (PcH D cA z ac E1 ad [.ref (ad 0), .int (x1), .int (x2)] S) (QN D cA z ac E1 ad (some (.int r)) S) 0 0 (zA z) := by
  refine Met.ofH (own := "TwoLevelParser") (by decide) rfl (Nat.le_of_ble_eq_true rfl) ?_
  intro p e s m args below meth c H ls C hW hS hl
  have hl : lv_has ls 4 [(0, .ref (ad 0)), (1, .int (x1)), (2, .int (x2))] := hl
  obtain ⟨⟨hx, hb, hml, hown, hts⟩, hK, hr, hlo⟩ := id C
  unfold f_P_node at h
  refine lv_aload_n hx hb d_P_node_0 rfl (lv_at hl 0 rfl) ?_
  refine lv_iload_n hx hb d_P_node_1 rfl (lv_at hl 1 rfl) ?_
  obtain ⟨r1, er1, h⟩ := ob_some h
  refine hx_V (i := 0) (As := [.int (x1)]) (rest := []) C hW hS (s_P_isNode x1 er1) km_P_322 kv_P_isNode ke_P_isNode kn_P kw_P_isNode kd_P_isNode (hW.fx 0 rfl) rfl q_P rfl ⟨by decide, by decide⟩ ⟨Nat.zero_le _, Nat.zero_le _⟩ rfl hl.1 rfl (Nat.le_of_ble_eq_true rfl) d_P_node_2 (fun H locs hW hS => ?_)
  refine lv_if_ne (tgt := 10) hx hb d_P_node_5 (by decide) (fun c5 => ?_) (fun c5 => ?_)
  · have h := ite_f c5 h
    refine lv_aload_n hx hb d_P_node_10 rfl (lv_at hl 0 rfl) ?_
    refine hg_r (j := 3) C hW 0 1 (hW.fx 0 rfl) rfl q_P (by decide) rfl (hW.fn (E := E1) (i := 0) (k := 1) rfl) (lkF C kf_P_118) d_P_node_11 ?_
    refine lv_iload_n hx hb d_P_node_14 rfl (lv_at hl 1 rfl) ?_
    obtain ⟨g2, h⟩ := gd_some h
    obtain ⟨j3, ej3, h⟩ := ob_some h
    refine ha_r (t := 3) (ck := 13) (j := j3) C hW 3 (hW.fx 3 rfl) rfl (by decide) rfl rfl g2 ej3 d_P_node_15 ?_
    refine lv_astore_n (lv' := [(3, .ref (ad j3)), (0, .ref (ad 0)), (1, .int (x1)), (2, .int (x2))]) hx hb d_P_node_16 rfl hl (by decide) rfl (fun ls hl => ?_)
    refine lv_iload_n hx hb d_P_node_17 rfl (lv_at hl 3 rfl) ?_
    by_cases c18_0 : x2 = (0 : Int32)
    · have h := ite_t c18_0 h
      refine lv_tableIn (off := 46) (tgt := 64) hx hb d_P_node_18 (by rw [c18_0]; decide) (by rw [c18_0]; decide) (by rw [c18_0]; rfl) (by decide) ?_
      refine lv_aload_n hx hb d_P_node_64 rfl (lv_at hl 0 rfl) ?_
      obtain ⟨g4, h⟩ := gd_some h
      refine hg_i C hW j3 0 g4.2 g4.1 q_N (by decide) rfl (lkN C kf_P_246) d_P_node_65 ?_
      have h := Option.some.inj h
      subst h
      exact he_i C hW hS d_P_node_68
    · have h := ite_f c18_0 h
      by_cases c18_1 : x2 = (1 : Int32)
      · have h := ite_t c18_1 h
        refine lv_tableIn (off := 51) (tgt := 69) hx hb d_P_node_18 (by rw [c18_1]; decide) (by rw [c18_1]; decide) (by rw [c18_1]; rfl) (by decide) ?_
        refine lv_aload_n hx hb d_P_node_69 rfl (lv_at hl 0 rfl) ?_
        obtain ⟨g5, h⟩ := gd_some h
        refine hg_i C hW j3 1 g5.2 g5.1 q_N (by decide) rfl (lkN C kf_P_249) d_P_node_70 ?_
        have h := Option.some.inj h
        subst h
        exact he_i C hW hS d_P_node_73
      · have h := ite_f c18_1 h
        by_cases c18_2 : x2 = (2 : Int32)
        · have h := ite_t c18_2 h
          refine lv_tableIn (off := 56) (tgt := 74) hx hb d_P_node_18 (by rw [c18_2]; decide) (by rw [c18_2]; decide) (by rw [c18_2]; rfl) (by decide) ?_
          refine lv_aload_n hx hb d_P_node_74 rfl (lv_at hl 0 rfl) ?_
          obtain ⟨g6, h⟩ := gd_some h
          refine hg_i C hW j3 2 g6.2 g6.1 q_N (by decide) rfl (lkN C kf_P_252) d_P_node_75 ?_
          have h := Option.some.inj h
          subst h
          exact he_i C hW hS d_P_node_78
        · have h := ite_f c18_2 h
          by_cases c18_3 : x2 = (3 : Int32)
          · have h := ite_t c18_3 h
            refine lv_tableIn (off := 61) (tgt := 79) hx hb d_P_node_18 (by rw [c18_3]; decide) (by rw [c18_3]; decide) (by rw [c18_3]; rfl) (by decide) ?_
            refine lv_aload_n hx hb d_P_node_79 rfl (lv_at hl 0 rfl) ?_
            obtain ⟨g7, h⟩ := gd_some h
            refine hg_i C hW j3 3 g7.2 g7.1 q_N (by decide) rfl (lkN C kf_P_255) d_P_node_80 ?_
            have h := Option.some.inj h
            subst h
            exact he_i C hW hS d_P_node_83
          · have h := ite_f c18_3 h
            by_cases c18_4 : x2 = (4 : Int32)
            · have h := ite_t c18_4 h
              refine lv_tableIn (off := 66) (tgt := 84) hx hb d_P_node_18 (by rw [c18_4]; decide) (by rw [c18_4]; decide) (by rw [c18_4]; rfl) (by decide) ?_
              refine lv_aload_n hx hb d_P_node_84 rfl (lv_at hl 0 rfl) ?_
              obtain ⟨g8, h⟩ := gd_some h
              refine hg_i C hW j3 4 g8.2 g8.1 q_N (by decide) rfl (lkN C kf_P_263) d_P_node_85 ?_
              have h := Option.some.inj h
              subst h
              exact he_i C hW hS d_P_node_88
            · have h := ite_f c18_4 h
              by_cases c18_5 : x2 = (5 : Int32)
              · have h := ite_t c18_5 h
                refine lv_tableIn (off := 71) (tgt := 89) hx hb d_P_node_18 (by rw [c18_5]; decide) (by rw [c18_5]; decide) (by rw [c18_5]; rfl) (by decide) ?_
                refine lv_aload_n hx hb d_P_node_89 rfl (lv_at hl 0 rfl) ?_
                obtain ⟨g9, h⟩ := gd_some h
                refine hg_i C hW j3 8 g9.2 g9.1 q_N (by decide) rfl (lkN C kf_P_272) d_P_node_90 ?_
                have h := Option.some.inj h
                subst h
                exact he_i C hW hS d_P_node_93
              · have h := ite_f c18_5 h
                by_cases c18_6 : x2 = (6 : Int32)
                · have h := ite_t c18_6 h
                  refine lv_tableIn (off := 76) (tgt := 94) hx hb d_P_node_18 (by rw [c18_6]; decide) (by rw [c18_6]; decide) (by rw [c18_6]; rfl) (by decide) ?_
                  refine lv_aload_n hx hb d_P_node_94 rfl (lv_at hl 0 rfl) ?_
                  obtain ⟨g10, h⟩ := gd_some h
                  refine hg_i C hW j3 9 g10.2 g10.1 q_N (by decide) rfl (lkN C kf_P_275) d_P_node_95 ?_
                  have h := Option.some.inj h
                  subst h
                  exact he_i C hW hS d_P_node_98
                · have h := ite_f c18_6 h
                  by_cases c18_7 : x2 = (7 : Int32)
                  · have h := ite_t c18_7 h
                    refine lv_tableIn (off := 81) (tgt := 99) hx hb d_P_node_18 (by rw [c18_7]; decide) (by rw [c18_7]; decide) (by rw [c18_7]; rfl) (by decide) ?_
                    refine lv_aload_n hx hb d_P_node_99 rfl (lv_at hl 0 rfl) ?_
                    obtain ⟨g11, h⟩ := gd_some h
                    refine hg_i C hW j3 5 g11.2 g11.1 q_N (by decide) rfl (lkN C kf_P_256) d_P_node_100 ?_
                    have h := Option.some.inj h
                    subst h
                    exact he_i C hW hS d_P_node_103
                  · have h := ite_f c18_7 h
                    refine lv_tableOut (tgt := 104) hx hb d_P_node_18 (by have := lv_neT c18_0 (show ((0 : Int32)).toInt = 0 by decide); have := lv_neT c18_1 (show ((1 : Int32)).toInt = 1 by decide); have := lv_neT c18_2 (show ((2 : Int32)).toInt = 2 by decide); have := lv_neT c18_3 (show ((3 : Int32)).toInt = 3 by decide); have := lv_neT c18_4 (show ((4 : Int32)).toInt = 4 by decide); have := lv_neT c18_5 (show ((5 : Int32)).toInt = 5 by decide); have := lv_neT c18_6 (show ((6 : Int32)).toInt = 6 by decide); have := lv_neT c18_7 (show ((7 : Int32)).toInt = 7 by decide); omega) (by decide) ?_
                    refine lv_iconst (v := -1) hx hb d_P_node_104 (by decide) ?_
                    have h := Option.some.inj h
                    subst h
                    exact he_i C hW hS d_P_node_105
  · have h := ite_t c5 h
    refine lv_iconst (v := -1) hx hb d_P_node_8 (by decide) ?_
    have h := Option.some.inj h
    subst h
    exact he_i C hW hS d_P_node_9
end WK
def f_P_name (x1 : Int32) (x2 : Int32) (S : HS) : Option Int64 :=
  ob (f_P_isNode x1 S) fun r1 =>
  (if r1 = 0 then
  some (0 : Int64)
  else
  (if x2 = 0 then
  gd (inR x1 4200) <|
  ob (gX S 3 x1.toNatClampNeg) fun j6 =>
  gd (kd j6 = 3 ∧ gD S j6 = true) <|
  some (gL S j6 6)
  else
  (if x2 = (1 : Int32) then
  gd (inR x1 4200) <|
  ob (gX S 3 x1.toNatClampNeg) fun j3 =>
  gd (kd j3 = 3 ∧ gD S j3 = true) <|
  some (gL S j3 7)
  else
  some (0 : Int64))))
section WK
variable {p : Program} {l : Launch} {e : Env} {s : State} {m : MethodId} {args : Array Value} {below : List Frame} {meth : Method} {c : Code} {D : va_G} {cA : Nat → ClassId} {z : Nat} {ac : Nat → Nat} {ad : Nat → Nat}
set_option maxHeartbeats 4000000 in
set_option maxRecDepth 100000 in
theorem s_P_name (x1 : Int32) (x2 : Int32) {S : HS} {r : Int64} (h : f_P_name x1 x2 S = some r) : Met l y_P_name (.code y_P_name b_P_name 3 (some .long) :: lw_g) (rmD 1 0 0) (PcH D cA z ac E1 ad [.ref (ad 0), .int (x1), .int (x2)] S) (QN D cA z ac E1 ad (some (.long r)) S) 0 0 (zA z) := by
  refine Met.ofH (own := "TwoLevelParser") (by decide) rfl (Nat.le_of_ble_eq_true rfl) ?_
  intro p e s m args below meth c H ls C hW hS hl
  have hl : lv_has ls 3 [(0, .ref (ad 0)), (1, .int (x1)), (2, .int (x2))] := hl
  obtain ⟨⟨hx, hb, hml, hown, hts⟩, hK, hr, hlo⟩ := id C
  unfold f_P_name at h
  refine lv_aload_n hx hb d_P_name_0 rfl (lv_at hl 0 rfl) ?_
  refine lv_iload_n hx hb d_P_name_1 rfl (lv_at hl 1 rfl) ?_
  obtain ⟨r1, er1, h⟩ := ob_some h
  refine hx_V (i := 0) (As := [.int (x1)]) (rest := []) C hW hS (s_P_isNode x1 er1) km_P_322 kv_P_isNode ke_P_isNode kn_P kw_P_isNode kd_P_isNode (hW.fx 0 rfl) rfl q_P rfl ⟨by decide, by decide⟩ ⟨Nat.zero_le _, Nat.zero_le _⟩ rfl hl.1 rfl (Nat.le_of_ble_eq_true rfl) d_P_name_2 (fun H locs hW hS => ?_)
  refine lv_if_ne (tgt := 12) hx hb d_P_name_5 (by decide) (fun c5 => ?_) (fun c5 => ?_)
  · have h := ite_f c5 h
    refine lv_iload_n hx hb d_P_name_12 rfl (lv_at hl 2 rfl) ?_
    refine lv_if_ne (tgt := 28) hx hb d_P_name_13 (by decide) (fun c13 => ?_) (fun c13 => ?_)
    · have h := ite_f c13 h
      refine lv_iload_n hx hb d_P_name_28 rfl (lv_at hl 2 rfl) ?_
      refine lv_iconst (v := 1) hx hb d_P_name_29 (by decide) ?_
      refine lv_icmp_ne (tgt := 45) hx hb d_P_name_30 (by decide) (fun c30 => ?_) (fun c30 => ?_)
      · have h := ite_f c30 h
        refine lv_lconst (v := 0) hx hb d_P_name_45 (by decide) ?_
        have h := Option.some.inj h
        subst h
        exact he_l C hW hS d_P_name_46
      · have h := ite_t c30 h
        refine lv_aload_n hx hb d_P_name_33 rfl (lv_at hl 0 rfl) ?_
        refine hg_r (j := 3) C hW 0 1 (hW.fx 0 rfl) rfl q_P (by decide) rfl (hW.fn (E := E1) (i := 0) (k := 1) rfl) (lkF C kf_P_118) d_P_name_34 ?_
        refine lv_iload_n hx hb d_P_name_37 rfl (lv_at hl 1 rfl) ?_
        obtain ⟨g2, h⟩ := gd_some h
        obtain ⟨j3, ej3, h⟩ := ob_some h
        refine ha_r (t := 3) (ck := 13) (j := j3) C hW 3 (hW.fx 3 rfl) rfl (by decide) rfl rfl g2 ej3 d_P_name_38 ?_
        obtain ⟨g4, h⟩ := gd_some h
        refine hg_l C hW j3 7 g4.2 g4.1 q_N (by decide) rfl (lkN C kf_P_269) d_P_name_39 ?_
        refine lv_goto (tgt := 46) hx hb d_P_name_42 (by decide) ?_
        have h := Option.some.inj h
        subst h
        exact he_l C hW hS d_P_name_46
    · have h := ite_t c13 h
      refine lv_aload_n hx hb d_P_name_16 rfl (lv_at hl 0 rfl) ?_
      refine hg_r (j := 3) C hW 0 1 (hW.fx 0 rfl) rfl q_P (by decide) rfl (hW.fn (E := E1) (i := 0) (k := 1) rfl) (lkF C kf_P_118) d_P_name_17 ?_
      refine lv_iload_n hx hb d_P_name_20 rfl (lv_at hl 1 rfl) ?_
      obtain ⟨g5, h⟩ := gd_some h
      obtain ⟨j6, ej6, h⟩ := ob_some h
      refine ha_r (t := 3) (ck := 13) (j := j6) C hW 3 (hW.fx 3 rfl) rfl (by decide) rfl rfl g5 ej6 d_P_name_21 ?_
      obtain ⟨g7, h⟩ := gd_some h
      refine hg_l C hW j6 6 g7.2 g7.1 q_N (by decide) rfl (lkN C kf_P_266) d_P_name_22 ?_
      refine lv_goto (tgt := 46) hx hb d_P_name_25 (by decide) ?_
      have h := Option.some.inj h
      subst h
      exact he_l C hW hS d_P_name_46
  · have h := ite_t c5 h
    refine lv_lconst (v := 0) hx hb d_P_name_8 (by decide) ?_
    refine lv_goto (tgt := 46) hx hb d_P_name_9 (by decide) ?_
    have h := Option.some.inj h
    subst h
    exact he_l C hW hS d_P_name_46
end WK
def f_P_number (x1 : Int32) (S : HS) : Option Int32 :=
  ob (f_P_isNode x1 S) fun r1 =>
  (if r1 = 0 then
  some (0 : Int32)
  else
  gd (inR x1 4200) <|
  ob (gX S 3 x1.toNatClampNeg) fun j3 =>
  gd (kd j3 = 3 ∧ gD S j3 = true) <|
  some (gF S j3 10))
section WK
variable {p : Program} {l : Launch} {e : Env} {s : State} {m : MethodId} {args : Array Value} {below : List Frame} {meth : Method} {c : Code} {D : va_G} {cA : Nat → ClassId} {z : Nat} {ac : Nat → Nat} {ad : Nat → Nat}
set_option maxHeartbeats 4000000 in
set_option maxRecDepth 100000 in
theorem s_P_number (x1 : Int32) {S : HS} {r : Int32} (h : f_P_number x1 S = some r) : Met l y_P_number (.code y_P_number b_P_number 2 (some .int) :: lw_g) (rmD 1 0 0) (PcH D cA z ac E1 ad [.ref (ad 0), .int (x1)] S) (QN D cA z ac E1 ad (some (.int r)) S) 0 0 (zA z) := by
  refine Met.ofH (own := "TwoLevelParser") (by decide) rfl (Nat.le_of_ble_eq_true rfl) ?_
  intro p e s m args below meth c H ls C hW hS hl
  have hl : lv_has ls 2 [(0, .ref (ad 0)), (1, .int (x1))] := hl
  obtain ⟨⟨hx, hb, hml, hown, hts⟩, hK, hr, hlo⟩ := id C
  unfold f_P_number at h
  refine lv_aload_n hx hb d_P_number_0 rfl (lv_at hl 0 rfl) ?_
  refine lv_iload_n hx hb d_P_number_1 rfl (lv_at hl 1 rfl) ?_
  obtain ⟨r1, er1, h⟩ := ob_some h
  refine hx_V (i := 0) (As := [.int (x1)]) (rest := []) C hW hS (s_P_isNode x1 er1) km_P_322 kv_P_isNode ke_P_isNode kn_P kw_P_isNode kd_P_isNode (hW.fx 0 rfl) rfl q_P rfl ⟨by decide, by decide⟩ ⟨Nat.zero_le _, Nat.zero_le _⟩ rfl hl.1 rfl (Nat.le_of_ble_eq_true rfl) d_P_number_2 (fun H locs hW hS => ?_)
  refine lv_if_eq (tgt := 20) hx hb d_P_number_5 (by decide) (fun c5 => ?_) (fun c5 => ?_)
  · have h := ite_t c5 h
    refine lv_iconst (v := 0) hx hb d_P_number_20 (by decide) ?_
    have h := Option.some.inj h
    subst h
    exact he_i C hW hS d_P_number_21
  · have h := ite_f c5 h
    refine lv_aload_n hx hb d_P_number_8 rfl (lv_at hl 0 rfl) ?_
    refine hg_r (j := 3) C hW 0 1 (hW.fx 0 rfl) rfl q_P (by decide) rfl (hW.fn (E := E1) (i := 0) (k := 1) rfl) (lkF C kf_P_118) d_P_number_9 ?_
    refine lv_iload_n hx hb d_P_number_12 rfl (lv_at hl 1 rfl) ?_
    obtain ⟨g2, h⟩ := gd_some h
    obtain ⟨j3, ej3, h⟩ := ob_some h
    refine ha_r (t := 3) (ck := 13) (j := j3) C hW 3 (hW.fx 3 rfl) rfl (by decide) rfl rfl g2 ej3 d_P_number_13 ?_
    obtain ⟨g4, h⟩ := gd_some h
    refine hg_i C hW j3 10 g4.2 g4.1 q_N (by decide) rfl (lkN C kf_P_278) d_P_number_14 ?_
    refine lv_goto (tgt := 21) hx hb d_P_number_17 (by decide) ?_
    have h := Option.some.inj h
    subst h
    exact he_i C hW hS d_P_number_21
end WK
def f_P_look (x1 : Int32) (S : HS) : Option Int32 :=
  (if x1 = (0 : Int32) then
  some (gF S 1 1)
  else
  (if x1 = (1 : Int32) then
  some (gF S 0 7)
  else
  (if x1 = (2 : Int32) then
  some (gF S 0 8)
  else
  (if x1 = (3 : Int32) then
  some (gF S 0 4)
  else
  (if x1 = (4 : Int32) then
  some (gF S 0 2)
  else
  some (-1 : Int32))))))
section WK
variable {p : Program} {l : Launch} {e : Env} {s : State} {m : MethodId} {args : Array Value} {below : List Frame} {meth : Method} {c : Code} {D : va_G} {cA : Nat → ClassId} {z : Nat} {ac : Nat → Nat} {ad : Nat → Nat}
set_option maxHeartbeats 4000000 in
set_option maxRecDepth 100000 in
theorem s_P_look (x1 : Int32) {S : HS} {r : Int32} (h : f_P_look x1 S = some r) : Met l y_P_look (.code y_P_look b_P_look 2 (some .int) :: lw_g) (rmD 0 0 0) (PcH D cA z ac E1 ad [.ref (ad 0), .int (x1)] S) (QN D cA z ac E1 ad (some (.int r)) S) 0 0 (zA z) := by
  refine Met.ofH (own := "TwoLevelParser") (by decide) rfl (Nat.le_of_ble_eq_true rfl) ?_
  intro p e s m args below meth c H ls C hW hS hl
  have hl : lv_has ls 2 [(0, .ref (ad 0)), (1, .int (x1))] := hl
  obtain ⟨⟨hx, hb, hml, hown, hts⟩, hK, hr, hlo⟩ := id C
  unfold f_P_look at h
  refine lv_iload_n hx hb d_P_look_0 rfl (lv_at hl 1 rfl) ?_
  by_cases c1_0 : x1 = (0 : Int32)
  · have h := ite_t c1_0 h
    refine lv_tableIn (off := 35) (tgt := 36) hx hb d_P_look_1 (by rw [c1_0]; decide) (by rw [c1_0]; decide) (by rw [c1_0]; rfl) (by decide) ?_
    refine lv_aload_n hx hb d_P_look_36 rfl (lv_at hl 0 rfl) ?_
    refine hg_r (j := 1) C hW 0 0 (hW.fx 0 rfl) rfl q_P (by decide) rfl (hW.fn (E := E1) (i := 0) (k := 0) rfl) (lkF C kf_P_112) d_P_look_37 ?_
    refine hg_i C hW 1 1 (hW.fx 1 rfl) rfl q_X (by decide) rfl (lkN C kf_P_139) d_P_look_40 ?_
    have h := Option.some.inj h
    subst h
    exact he_i C hW hS d_P_look_43
  · have h := ite_f c1_0 h
    by_cases c1_1 : x1 = (1 : Int32)
    · have h := ite_t c1_1 h
      refine lv_tableIn (off := 43) (tgt := 44) hx hb d_P_look_1 (by rw [c1_1]; decide) (by rw [c1_1]; decide) (by rw [c1_1]; rfl) (by decide) ?_
      refine lv_aload_n hx hb d_P_look_44 rfl (lv_at hl 0 rfl) ?_
      refine hg_i C hW 0 7 (hW.fx 0 rfl) rfl q_P (by decide) rfl (lkF C kf_P_146) d_P_look_45 ?_
      have h := Option.some.inj h
      subst h
      exact he_i C hW hS d_P_look_48
    · have h := ite_f c1_1 h
      by_cases c1_2 : x1 = (2 : Int32)
      · have h := ite_t c1_2 h
        refine lv_tableIn (off := 48) (tgt := 49) hx hb d_P_look_1 (by rw [c1_2]; decide) (by rw [c1_2]; decide) (by rw [c1_2]; rfl) (by decide) ?_
        refine lv_aload_n hx hb d_P_look_49 rfl (lv_at hl 0 rfl) ?_
        refine hg_i C hW 0 8 (hW.fx 0 rfl) rfl q_P (by decide) rfl (lkF C kf_P_134) d_P_look_50 ?_
        have h := Option.some.inj h
        subst h
        exact he_i C hW hS d_P_look_53
      · have h := ite_f c1_2 h
        by_cases c1_3 : x1 = (3 : Int32)
        · have h := ite_t c1_3 h
          refine lv_tableIn (off := 53) (tgt := 54) hx hb d_P_look_1 (by rw [c1_3]; decide) (by rw [c1_3]; decide) (by rw [c1_3]; rfl) (by decide) ?_
          refine lv_aload_n hx hb d_P_look_54 rfl (lv_at hl 0 rfl) ?_
          refine hg_i C hW 0 4 (hW.fx 0 rfl) rfl q_P (by decide) rfl (lkF C kf_P_182) d_P_look_55 ?_
          have h := Option.some.inj h
          subst h
          exact he_i C hW hS d_P_look_58
        · have h := ite_f c1_3 h
          by_cases c1_4 : x1 = (4 : Int32)
          · have h := ite_t c1_4 h
            refine lv_tableIn (off := 58) (tgt := 59) hx hb d_P_look_1 (by rw [c1_4]; decide) (by rw [c1_4]; decide) (by rw [c1_4]; rfl) (by decide) ?_
            refine lv_aload_n hx hb d_P_look_59 rfl (lv_at hl 0 rfl) ?_
            refine hg_i C hW 0 2 (hW.fx 0 rfl) rfl q_P (by decide) rfl (lkF C kf_P_179) d_P_look_60 ?_
            have h := Option.some.inj h
            subst h
            exact he_i C hW hS d_P_look_63
          · have h := ite_f c1_4 h
            refine lv_tableOut (tgt := 64) hx hb d_P_look_1 (by have := lv_neT c1_0 (show ((0 : Int32)).toInt = 0 by decide); have := lv_neT c1_1 (show ((1 : Int32)).toInt = 1 by decide); have := lv_neT c1_2 (show ((2 : Int32)).toInt = 2 by decide); have := lv_neT c1_3 (show ((3 : Int32)).toInt = 3 by decide); have := lv_neT c1_4 (show ((4 : Int32)).toInt = 4 by decide); omega) (by decide) ?_
            refine lv_iconst (v := -1) hx hb d_P_look_64 (by decide) ?_
            have h := Option.some.inj h
            subst h
            exact he_i C hW hS d_P_look_65
end WK
