-- printed by gen/walk.py
def f_M_readName_b64 (n : Nat) (kc : Int32 → Int32 → HS → Option HS) (x2 : Int32) (y0 : Int32) (S : HS) : Option HS :=
  lt y0 fun v8 =>
  gd (inR x2 8192) <|
  lt (sL S 200 8 (((32 : Int64) * (gL S 200 8)) + (((gF S 201 x2.toNatClampNeg) - (97 : Int32)) + (1 : Int32)).toInt64)) fun S10 =>
  lt (x2 + 1) fun v11 =>
  kc v8 v11 S10
def f_M_readName_b63 (n : Nat) (kc : Int32 → Int32 → HS → Option HS) (x2 : Int32) (S : HS) : Option HS :=
  f_M_readName_b64 n kc x2 (0 : Int32) S
def f_M_readName_b35B (n : Nat) (kc : Int32 → Int32 → HS → Option HS) (x1 : Int32) (x2 : Int32) (S : HS) : Option HS :=
  (if (gF S 200 5) ≤ x2 then
  (if x1 = 0 then
  ob (f_M_wrong (1 : Int32) (gF S 200 7) S) fun S5 =>
  some S5
  else
  some S)
  else
  (if x1 = 0 then
  f_M_readName_b63 n kc x2 S
  else
  gd (inR x2 8192) <|
  ob (f_M_isLetter (gF S 201 x2.toNatClampNeg)) fun r7 =>
  (if r7 = 0 then
  f_M_readName_b63 n kc x2 S
  else
  f_M_readName_b64 n kc x2 (1 : Int32) S)))
def f_M_readName_b35 (n : Nat) (k : Nat) : Int32 → Int32 → HS → Option HS := lpF (fun _ _ _ => none) (f_M_readName_b35B n) k
def f_M_readName_b29 (n : Nat) (y0 : Int32) (S : HS) : Option HS :=
  lt y0 fun v3 =>
  lt (gF S 200 7) fun v4 =>
  f_M_readName_b35 n n v3 v4 S
def f_M_readName (n : Nat) (S : HS) : Option HS :=
  lt (sF S 200 6 (2 : Int32)) fun S1 =>
  lt (sL S1 200 8 (0 : Int64)) fun S2 =>
  (if (12 : Int32) < ((gF S2 200 5) - (gF S2 200 7)) then
  f_M_readName_b29 n (0 : Int32) S2
  else
  f_M_readName_b29 n (1 : Int32) S2)
section WK
variable {p : Program} {l : Launch} {e : Env} {s : State} {m : MethodId} {args : Array Value} {below : List Frame} {meth : Method} {c : Code} {D : va_G} {cA : Nat → ClassId} {z : Nat} {ac : Nat → Nat} {ad : Nat → Nat}
set_option maxHeartbeats 4000000 in
set_option maxRecDepth 100000 in
theorem w_M_readName_64 (C : CB p s m args c meth b_M_readName "TwoLevelParserModel" 3 none D cA z ac) (n : Nat) (kc : Int32 → Int32 → HS → Option HS) {S' : HS} (hk : ∀ (x1 : Int32) (x2 : Int32) (S : HS) {H : Heap} {locs : List Loc} {ls : Array Slot}, kc x1 x2 S = some S' → HW D cA z ac E1 ad S H → va_S (zA z) s.heap H locs → lv_has ls 3 [(0, .ref (ad 200)), (1, .int (x1)), (2, .int (x2))] → GW p l e 1 s m args below meth c D cA z ac E1 ad none S' H locs (F0 m 35 ls [])) (x2 : Int32) (y0 : Int32) {S : HS} {H : Heap} {locs : List Loc} {ls : Array Slot} (h : f_M_readName_b64 n kc x2 y0 S = some S') (hW : HW D cA z ac E1 ad S H) (hS : va_S (zA z) s.heap H locs) (hl : lv_has ls 3 [(0, .ref (ad 200)), (2, .int (x2))]) : GW p l e 1 s m args below meth c D cA z ac E1 ad none S' H locs (F0 m 64 ls [.int (y0)]) := by
  obtain ⟨⟨hx, hb, hml, hown, hts⟩, hK, hr, hlo⟩ := id C
  unfold f_M_readName_b64 at h
  obtain ⟨v8, ev8, h⟩ := lt_some h
  refine lt_i_n (lv' := [(1, .int (v8)), (0, .ref (ad 200)), (2, .int (x2))]) C d_M_readName_64 rfl hl (by decide) ev8 rfl (fun ls hl => ?_)
  refine lv_aload_n hx hb d_M_readName_65 rfl (lv_at hl 1 rfl) ?_
  refine lv_ldc2 hx hb hown (hts _ kl_M_119) d_M_readName_66 ?_
  refine lv_aload_n hx hb d_M_readName_69 rfl (lv_at hl 1 rfl) ?_
  refine hg_l C hW 200 8 (hW.fx 200 rfl) rfl q_M (by decide) rfl (lkF C kf_M_115) d_M_readName_70 ?_
  refine lv_lmul hx hb d_M_readName_73 ?_
  refine lv_aload_n hx hb d_M_readName_74 rfl (lv_at hl 1 rfl) ?_
  refine hg_r (j := 201) C hW 200 1 (hW.fx 200 rfl) rfl q_M (by decide) rfl (hW.fn (E := E1) (i := 200) (k := 1) rfl) (lkF C kf_M_7) d_M_readName_75 ?_
  refine lv_iload_n hx hb d_M_readName_78 rfl (lv_at hl 2 rfl) ?_
  obtain ⟨g9, h⟩ := gd_some h
  refine ha_b C hW 201 (hW.fx 201 rfl) rfl rfl g9 d_M_readName_79 ?_
  refine lv_bipush (v := 97) hx hb d_M_readName_80 (by decide) ?_
  refine lv_isub hx hb d_M_readName_82 ?_
  refine lv_iconst (v := 1) hx hb d_M_readName_83 (by decide) ?_
  refine lv_iadd hx hb d_M_readName_84 ?_
  refine lv_i2l (v := (((gF S 201 x2.toNatClampNeg) - (97 : Int32)) + (1 : Int32)).toInt64) hx hb d_M_readName_85 rfl ?_
  refine lv_ladd hx hb d_M_readName_86 ?_
  obtain ⟨S10, eS10, h⟩ := lt_some h
  refine hp_l C hW hS 200 8 (hW.fx 200 rfl) rfl q_M (by decide) rfl rfl rfl (lkF C kf_M_115) eS10 d_M_readName_87 (fun H locs hW hS => ?_)
  obtain ⟨v11, ev11, h⟩ := lt_some h
  refine lv_iinc (v := v11) (lv' := [(2, .int (v11)), (1, .int (v8)), (0, .ref (ad 200))]) hx hb d_M_readName_90 hl (k := 2) rfl (by rw [ev11]; rfl) (by decide) rfl (fun ls hl => ?_)
  refine lv_goto (tgt := 35) hx hb d_M_readName_93 (by decide) ?_
  exact hk _ _ _ h hW hS (lv_sub hl [2, 1, 0] rfl)
set_option maxHeartbeats 4000000 in
set_option maxRecDepth 100000 in
theorem w_M_readName_63 (C : CB p s m args c meth b_M_readName "TwoLevelParserModel" 3 none D cA z ac) (n : Nat) (kc : Int32 → Int32 → HS → Option HS) {S' : HS} (hk : ∀ (x1 : Int32) (x2 : Int32) (S : HS) {H : Heap} {locs : List Loc} {ls : Array Slot}, kc x1 x2 S = some S' → HW D cA z ac E1 ad S H → va_S (zA z) s.heap H locs → lv_has ls 3 [(0, .ref (ad 200)), (1, .int (x1)), (2, .int (x2))] → GW p l e 1 s m args below meth c D cA z ac E1 ad none S' H locs (F0 m 35 ls [])) (x2 : Int32) {S : HS} {H : Heap} {locs : List Loc} {ls : Array Slot} (h : f_M_readName_b63 n kc x2 S = some S') (hW : HW D cA z ac E1 ad S H) (hS : va_S (zA z) s.heap H locs) (hl : lv_has ls 3 [(0, .ref (ad 200)), (2, .int (x2))]) : GW p l e 1 s m args below meth c D cA z ac E1 ad none S' H locs (F0 m 63 ls []) := by
  obtain ⟨⟨hx, hb, hml, hown, hts⟩, hK, hr, hlo⟩ := id C
  unfold f_M_readName_b63 at h
  refine lv_iconst (v := 0) hx hb d_M_readName_63 (by decide) ?_
  exact w_M_readName_64 C n kc hk x2 (0 : Int32) h hW hS (lv_sub hl [0, 1] rfl)
set_option maxHeartbeats 4000000 in
set_option maxRecDepth 100000 in
theorem w_M_readName_35B (C : CB p s m args c meth b_M_readName "TwoLevelParserModel" 3 none D cA z ac) (n : Nat) (kc : Int32 → Int32 → HS → Option HS) {S' : HS} (hk : ∀ (x1 : Int32) (x2 : Int32) (S : HS) {H : Heap} {locs : List Loc} {ls : Array Slot}, kc x1 x2 S = some S' → HW D cA z ac E1 ad S H → va_S (zA z) s.heap H locs → lv_has ls 3 [(0, .ref (ad 200)), (1, .int (x1)), (2, .int (x2))] → GW p l e 1 s m args below meth c D cA z ac E1 ad none S' H locs (F0 m 35 ls [])) (x1 : Int32) (x2 : Int32) {S : HS} {H : Heap} {locs : List Loc} {ls : Array Slot} (h : f_M_readName_b35B n kc x1 x2 S = some S') (hW : HW D cA z ac E1 ad S H) (hS : va_S (zA z) s.heap H locs) (hl : lv_has ls 3 [(0, .ref (ad 200)), (1, .int (x1)), (2, .int (x2))]) : GW p l e 1 s m args below meth c D cA z ac E1 ad none S' H locs (F0 m 35 ls []) := by
  obtain ⟨⟨hx, hb, hml, hown, hts⟩, hK, hr, hlo⟩ := id C
  unfold f_M_readName_b35B at h
  refine lv_iload_n hx hb d_M_readName_35 rfl (lv_at hl 2 rfl) ?_
  refine lv_aload_n hx hb d_M_readName_36 rfl (lv_at hl 0 rfl) ?_
  refine hg_i C hW 200 5 (hW.fx 200 rfl) rfl q_M (by decide) rfl (lkF C kf_M_93) d_M_readName_37 ?_
  refine lv_icmp_ge (tgt := 96) hx hb d_M_readName_40 (by decide) (fun c40 => ?_) (fun c40 => ?_)
  · have h := ite_t c40 h
    refine lv_iload_n hx hb d_M_readName_96 rfl (lv_at hl 1 rfl) ?_
    refine lv_if_ne (tgt := 109) hx hb d_M_readName_97 (by decide) (fun c97 => ?_) (fun c97 => ?_)
    · have h := ite_f c97 h
      have h := Option.some.inj h
      subst h
      exact he_v C hW hS d_M_readName_109
    · have h := ite_t c97 h
      refine lv_aload_n hx hb d_M_readName_100 rfl (lv_at hl 0 rfl) ?_
      refine lv_iconst (v := 1) hx hb d_M_readName_101 (by decide) ?_
      refine lv_aload_n hx hb d_M_readName_102 rfl (lv_at hl 0 rfl) ?_
      refine hg_i C hW 200 7 (hW.fx 200 rfl) rfl q_M (by decide) rfl (lkF C kf_M_96) d_M_readName_103 ?_
      obtain ⟨S5, eS5, h⟩ := ob_some h
      refine hx_V (i := 200) (As := [.int ((1 : Int32)), .int ((gF S 200 7))]) (rest := []) C hW hS (s_M_wrong (1 : Int32) (gF S 200 7) eS5) km_M_105 kv_M_wrong ke_M_wrong kn_M kw_M_wrong kd_M_wrong (hW.fx 200 rfl) rfl q_M rfl ⟨by decide, by decide⟩ ⟨Nat.zero_le _, Nat.zero_le _⟩ rfl hl.1 rfl (Nat.le_of_ble_eq_true rfl) d_M_readName_106 (fun H locs hW hS => ?_)
      have h := Option.some.inj h
      subst h
      exact he_v C hW hS d_M_readName_109
  · have h := ite_f c40 h
    refine lv_iload_n hx hb d_M_readName_43 rfl (lv_at hl 1 rfl) ?_
    refine lv_if_eq (tgt := 63) hx hb d_M_readName_44 (by decide) (fun c44 => ?_) (fun c44 => ?_)
    · have h := ite_t c44 h
      exact w_M_readName_63 C n kc hk x2 h hW hS (lv_sub hl [0, 2] rfl)
    · have h := ite_f c44 h
      refine lv_aload_n hx hb d_M_readName_47 rfl (lv_at hl 0 rfl) ?_
      refine hg_r (j := 201) C hW 200 1 (hW.fx 200 rfl) rfl q_M (by decide) rfl (hW.fn (E := E1) (i := 200) (k := 1) rfl) (lkF C kf_M_7) d_M_readName_48 ?_
      refine lv_iload_n hx hb d_M_readName_51 rfl (lv_at hl 2 rfl) ?_
      obtain ⟨g6, h⟩ := gd_some h
      refine ha_b C hW 201 (hW.fx 201 rfl) rfl rfl g6 d_M_readName_52 ?_
      obtain ⟨r7, er7, h⟩ := ob_some h
      refine hx_S (As := [.int ((gF S 201 x2.toNatClampNeg))]) (rest := []) C hW hS (s_M_isLetter (gF S 201 x2.toNatClampNeg) er7) km_M_86 kv_M_isLetter kn_M kw_M_isLetter kd_M_isLetter ⟨by decide, by decide⟩ ⟨Nat.zero_le _, Nat.zero_le _⟩ rfl hl.1 rfl (Nat.le_of_ble_eq_true rfl) d_M_readName_53 (fun H locs hW hS => ?_)
      refine lv_if_eq (tgt := 63) hx hb d_M_readName_56 (by decide) (fun c56 => ?_) (fun c56 => ?_)
      · have h := ite_t c56 h
        exact w_M_readName_63 C n kc hk x2 h hW hS (lv_sub hl [0, 2] rfl)
      · have h := ite_f c56 h
        refine lv_iconst (v := 1) hx hb d_M_readName_59 (by decide) ?_
        refine lv_goto (tgt := 64) hx hb d_M_readName_60 (by decide) ?_
        exact w_M_readName_64 C n kc hk x2 (1 : Int32) h hW hS (lv_sub hl [0, 2] rfl)
set_option maxHeartbeats 4000000 in
set_option maxRecDepth 100000 in
theorem w_M_readName_35 (C : CB p s m args c meth b_M_readName "TwoLevelParserModel" 3 none D cA z ac) (n : Nat) (k : Nat) {S' : HS} : ∀ (x1 : Int32) (x2 : Int32) {S : HS} {H : Heap} {locs : List Loc} {ls : Array Slot}, f_M_readName_b35 n k x1 x2 S = some S' → HW D cA z ac E1 ad S H → va_S (zA z) s.heap H locs → lv_has ls 3 [(0, .ref (ad 200)), (1, .int (x1)), (2, .int (x2))] → GW p l e 1 s m args below meth c D cA z ac E1 ad none S' H locs (F0 m 35 ls []) := by
  induction k with
  | zero => intro x1 x2 S H locs ls h; cases h
  | succ k ih => intro x1 x2 S H locs ls h hW hS hl; exact w_M_readName_35B C n (f_M_readName_b35 n k) (fun x1 x2 S H locs ls h hW hS hl => ih x1 x2 h hW hS hl) x1 x2 h hW hS hl
set_option maxHeartbeats 4000000 in
set_option maxRecDepth 100000 in
theorem w_M_readName_29 (C : CB p s m args c meth b_M_readName "TwoLevelParserModel" 3 none D cA z ac) (n : Nat) {S' : HS} (y0 : Int32) {S : HS} {H : Heap} {locs : List Loc} {ls : Array Slot} (h : f_M_readName_b29 n y0 S = some S') (hW : HW D cA z ac E1 ad S H) (hS : va_S (zA z) s.heap H locs) (hl : lv_has ls 3 [(0, .ref (ad 200))]) : GW p l e 1 s m args below meth c D cA z ac E1 ad none S' H locs (F0 m 29 ls [.int (y0)]) := by
  obtain ⟨⟨hx, hb, hml, hown, hts⟩, hK, hr, hlo⟩ := id C
  unfold f_M_readName_b29 at h
  obtain ⟨v3, ev3, h⟩ := lt_some h
  refine lt_i_n (lv' := [(1, .int (v3)), (0, .ref (ad 200))]) C d_M_readName_29 rfl hl (by decide) ev3 rfl (fun ls hl => ?_)
  refine lv_aload_n hx hb d_M_readName_30 rfl (lv_at hl 1 rfl) ?_
  refine hg_i C hW 200 7 (hW.fx 200 rfl) rfl q_M (by decide) rfl (lkF C kf_M_96) d_M_readName_31 ?_
  obtain ⟨v4, ev4, h⟩ := lt_some h
  refine lt_i_n (lv' := [(2, .int (v4)), (1, .int (v3)), (0, .ref (ad 200))]) C d_M_readName_34 rfl hl (by decide) ev4 rfl (fun ls hl => ?_)
  exact w_M_readName_35 C n n v3 v4 h hW hS (lv_sub hl [2, 1, 0] rfl)
set_option maxHeartbeats 4000000 in
set_option maxRecDepth 100000 in
theorem s_M_readName (n : Nat) {S : HS} {S' : HS} (h : f_M_readName n S = some S') : Met l y_M_readName (.code y_M_readName b_M_readName 3 none :: lw_g) (rmD 1 0 0) (PcH D cA z ac E1 ad [.ref (ad 200)] S) (QN D cA z ac E1 ad none S') 0 0 (zA z) := by
  refine Met.ofH (own := "TwoLevelParserModel") (by decide) rfl (Nat.le_of_ble_eq_true rfl) ?_
  intro p e s m args below meth c H ls C hW hS hl
  have hl : lv_has ls 3 [(0, .ref (ad 200))] := hl
  obtain ⟨⟨hx, hb, hml, hown, hts⟩, hK, hr, hlo⟩ := id C
  unfold f_M_readName at h
  refine lv_aload_n hx hb d_M_readName_0 rfl (lv_at hl 0 rfl) ?_
  refine lv_iconst (v := 2) hx hb d_M_readName_1 (by decide) ?_
  obtain ⟨S1, eS1, h⟩ := lt_some h
  refine hp_i C hW hS 200 6 (hW.fx 200 rfl) rfl q_M (by decide) rfl rfl rfl (lkF C kf_M_99) eS1 d_M_readName_2 (fun H locs hW hS => ?_)
  refine lv_aload_n hx hb d_M_readName_5 rfl (lv_at hl 0 rfl) ?_
  refine lv_lconst (v := 0) hx hb d_M_readName_6 (by decide) ?_
  obtain ⟨S2, eS2, h⟩ := lt_some h
  refine hp_l C hW hS 200 8 (hW.fx 200 rfl) rfl q_M (by decide) rfl rfl rfl (lkF C kf_M_115) eS2 d_M_readName_7 (fun H locs hW hS => ?_)
  refine lv_aload_n hx hb d_M_readName_10 rfl (lv_at hl 0 rfl) ?_
  refine hg_i C hW 200 5 (hW.fx 200 rfl) rfl q_M (by decide) rfl (lkF C kf_M_93) d_M_readName_11 ?_
  refine lv_aload_n hx hb d_M_readName_14 rfl (lv_at hl 0 rfl) ?_
  refine hg_i C hW 200 7 (hW.fx 200 rfl) rfl q_M (by decide) rfl (lkF C kf_M_96) d_M_readName_15 ?_
  refine lv_isub hx hb d_M_readName_18 ?_
  refine lv_bipush (v := 12) hx hb d_M_readName_19 (by decide) ?_
  refine lv_icmp_gt (tgt := 28) hx hb d_M_readName_21 (by decide) (fun c21 => ?_) (fun c21 => ?_)
  · have h := ite_t c21 h
    refine lv_iconst (v := 0) hx hb d_M_readName_28 (by decide) ?_
    exact w_M_readName_29 C n (0 : Int32) h hW hS (lv_sub hl [0] rfl)
  · have h := ite_f c21 h
    refine lv_iconst (v := 1) hx hb d_M_readName_24 (by decide) ?_
    refine lv_goto (tgt := 29) hx hb d_M_readName_25 (by decide) ?_
    exact w_M_readName_29 C n (1 : Int32) h hW hS (lv_sub hl [0] rfl)
end WK
def f_M_readNumber_b113 (n : Nat) (kc : Int32 → Int32 → Int64 → Int32 → HS → Option HS) (x1 : Int32) (x2 : Int32) (x5 : Int32) (y0 : Int64) (S : HS) : Option HS :=
  lt y0 fun v14 =>
  lt (x5 + 1) fun v15 =>
  kc x1 x2 v14 v15 S
def f_M_readNumber_b83 (n : Nat) (kc : Int32 → Int32 → Int64 → Int32 → HS → Option HS) (x1 : Int32) (x3 : Int64) (x5 : Int32) (y0 : Int32) (S : HS) : Option HS :=
  lt y0 fun v10 =>
  (if (lg_cmp x3 (99999999999 : Int64)) ≤ 0 then
  gd (inR x5 8192) <|
  f_M_readNumber_b113 n kc x1 v10 x5 (((10 : Int64) * x3) + ((gF S 201 x5.toNatClampNeg) - (48 : Int32)).toInt64) S
  else
  f_M_readNumber_b113 n kc x1 v10 x5 x3 S)
def f_M_readNumber_b82 (n : Nat) (kc : Int32 → Int32 → Int64 → Int32 → HS → Option HS) (x1 : Int32) (x3 : Int64) (x5 : Int32) (S : HS) : Option HS :=
  f_M_readNumber_b83 n kc x1 x3 x5 (0 : Int32) S
def f_M_readNumber_b164 (n : Nat) (x3 : Int64) (S : HS) : Option HS :=
  lt (sF S 200 9 (x3.toInt32)) fun S13 =>
  some S13
def f_M_readNumber_b155 (n : Nat) (x3 : Int64) (S : HS) : Option HS :=
  ob (f_M_wrong (1 : Int32) (gF S 200 7) S) fun S12 =>
  f_M_readNumber_b164 n x3 S12
def f_M_readNumber_b134 (n : Nat) (x2 : Int32) (y0 : Int64) (S : HS) : Option HS :=
  lt y0 fun v9 =>
  (if x2 = 0 then
  f_M_readNumber_b155 n v9 S
  else
  (if (lg_cmp v9 (-2147483648 : Int64)) < 0 then
  f_M_readNumber_b155 n v9 S
  else
  (if (lg_cmp v9 (2147483647 : Int64)) ≤ 0 then
  f_M_readNumber_b164 n v9 S
  else
  f_M_readNumber_b155 n v9 S)))
def f_M_readNumber_b52B (n : Nat) (kc : Int32 → Int32 → Int64 → Int32 → HS → Option HS) (x1 : Int32) (x2 : Int32) (x3 : Int64) (x5 : Int32) (S : HS) : Option HS :=
  (if (gF S 200 5) ≤ x5 then
  (if x1 ≤ (gF S 200 7) then
  f_M_readNumber_b134 n x2 x3 S
  else
  f_M_readNumber_b134 n x2 (-x3) S)
  else
  (if x2 = 0 then
  f_M_readNumber_b82 n kc x1 x3 x5 S
  else
  gd (inR x5 8192) <|
  ob (f_M_isDigit (gF S 201 x5.toNatClampNeg)) fun r8 =>
  (if r8 = 0 then
  f_M_readNumber_b82 n kc x1 x3 x5 S
  else
  f_M_readNumber_b83 n kc x1 x3 x5 (1 : Int32) S)))
def f_M_readNumber_b52 (n : Nat) (k : Nat) : Int32 → Int32 → Int64 → Int32 → HS → Option HS := lpF (fun _ _ _ _ _ => none) (f_M_readNumber_b52B n) k
def f_M_readNumber_b46 (n : Nat) (x1 : Int32) (y0 : Int32) (S : HS) : Option HS :=
  lt y0 fun v4 =>
  lt (0 : Int64) fun v5 =>
  lt x1 fun v6 =>
  f_M_readNumber_b52 n n x1 v4 v5 v6 S
def f_M_readNumber_b32 (n : Nat) (y0 : Int32) (S : HS) : Option HS :=
  lt y0 fun v3 =>
  (if (gF S 200 5) ≤ v3 then
  f_M_readNumber_b46 n v3 (0 : Int32) S
  else
  f_M_readNumber_b46 n v3 (1 : Int32) S)
def f_M_readNumber (n : Nat) (S : HS) : Option HS :=
  lt (sF S 200 6 (3 : Int32)) fun S1 =>
  gd (inR (gF S1 200 7) 8192) <|
  (if (gF S1 201 (gF S1 200 7).toNatClampNeg) = (45 : Int32) then
  f_M_readNumber_b32 n ((gF S1 200 7) + (1 : Int32)) S1
  else
  f_M_readNumber_b32 n (gF S1 200 7) S1)
section WK
variable {p : Program} {l : Launch} {e : Env} {s : State} {m : MethodId} {args : Array Value} {below : List Frame} {meth : Method} {c : Code} {D : va_G} {cA : Nat → ClassId} {z : Nat} {ac : Nat → Nat} {ad : Nat → Nat}
set_option maxHeartbeats 4000000 in
set_option maxRecDepth 100000 in
theorem w_M_readNumber_113 (C : CB p s m args c meth b_M_readNumber "TwoLevelParserModel" 6 none D cA z ac) (n : Nat) (kc : Int32 → Int32 → Int64 → Int32 → HS → Option HS) {S' : HS} (hk : ∀ (x1 : Int32) (x2 : Int32) (x3 : Int64) (x5 : Int32) (S : HS) {H : Heap} {locs : List Loc} {ls : Array Slot}, kc x1 x2 x3 x5 S = some S' → HW D cA z ac E1 ad S H → va_S (zA z) s.heap H locs → lv_has ls 6 [(0, .ref (ad 200)), (1, .int (x1)), (2, .int (x2)), (3, .long (x3)), (5, .int (x5))] → GW p l e 1 s m args below meth c D cA z ac E1 ad none S' H locs (F0 m 52 ls [])) (x1 : Int32) (x2 : Int32) (x5 : Int32) (y0 : Int64) {S : HS} {H : Heap} {locs : List Loc} {ls : Array Slot} (h : f_M_readNumber_b113 n kc x1 x2 x5 y0 S = some S') (hW : HW D cA z ac E1 ad S H) (hS : va_S (zA z) s.heap H locs) (hl : lv_has ls 6 [(0, .ref (ad 200)), (1, .int (x1)), (2, .int (x2)), (5, .int (x5))]) : GW p l e 1 s m args below meth c D cA z ac E1 ad none S' H locs (F0 m 113 ls [.long (y0)]) := by
  obtain ⟨⟨hx, hb, hml, hown, hts⟩, hK, hr, hlo⟩ := id C
  unfold f_M_readNumber_b113 at h
  obtain ⟨v14, ev14, h⟩ := lt_some h
  refine lt_l_n (lv' := [(3, .long (v14)), (0, .ref (ad 200)), (1, .int (x1)), (2, .int (x2)), (5, .int (x5))]) C d_M_readNumber_113 rfl hl (by decide) ev14 rfl (fun ls hl => ?_)
  obtain ⟨v15, ev15, h⟩ := lt_some h
  refine lv_iinc (v := v15) (lv' := [(5, .int (v15)), (3, .long (v14)), (0, .ref (ad 200)), (1, .int (x1)), (2, .int (x2))]) hx hb d_M_readNumber_114 hl (k := 4) rfl (by rw [ev15]; rfl) (by decide) rfl (fun ls hl => ?_)
  refine lv_goto (tgt := 52) hx hb d_M_readNumber_117 (by decide) ?_
  exact hk _ _ _ _ _ h hW hS (lv_sub hl [2, 3, 4, 1, 0] rfl)
set_option maxHeartbeats 4000000 in
set_option maxRecDepth 100000 in
theorem w_M_readNumber_83 (C : CB p s m args c meth b_M_readNumber "TwoLevelParserModel" 6 none D cA z ac) (n : Nat) (kc : Int32 → Int32 → Int64 → Int32 → HS → Option HS) {S' : HS} (hk : ∀ (x1 : Int32) (x2 : Int32) (x3 : Int64) (x5 : Int32) (S : HS) {H : Heap} {locs : List Loc} {ls : Array Slot}, kc x1 x2 x3 x5 S = some S' → HW D cA z ac E1 ad S H → va_S (zA z) s.heap H locs → lv_has ls 6 [(0, .ref (ad 200)), (1, .int (x1)), (2, .int (x2)), (3, .long (x3)), (5, .int (x5))] → GW p l e 1 s m args below meth c D cA z ac E1 ad none S' H locs (F0 m 52 ls [])) (x1 : Int32) (x3 : Int64) (x5 : Int32) (y0 : Int32) {S : HS} {H : Heap} {locs : List Loc} {ls : Array Slot} (h : f_M_readNumber_b83 n kc x1 x3 x5 y0 S = some S') (hW : HW D cA z ac E1 ad S H) (hS : va_S (zA z) s.heap H locs) (hl : lv_has ls 6 [(0, .ref (ad 200)), (1, .int (x1)), (3, .long (x3)), (5, .int (x5))]) : GW p l e 1 s m args below meth c D cA z ac E1 ad none S' H locs (F0 m 83 ls [.int (y0)]) := by
  obtain ⟨⟨hx, hb, hml, hown, hts⟩, hK, hr, hlo⟩ := id C
  unfold f_M_readNumber_b83 at h
  obtain ⟨v10, ev10, h⟩ := lt_some h
  refine lt_i_n (lv' := [(2, .int (v10)), (0, .ref (ad 200)), (1, .int (x1)), (3, .long (x3)), (5, .int (x5))]) C d_M_readNumber_83 rfl hl (by decide) ev10 rfl (fun ls hl => ?_)
  refine lv_lload_n hx hb d_M_readNumber_84 rfl (lv_at hl 3 rfl) ?_
  refine lv_ldc2 hx hb hown (hts _ kl_M_121) d_M_readNumber_85 ?_
  refine W.lcmp hx hb d_M_readNumber_88 ?_
  refine lv_if_le (tgt := 96) hx hb d_M_readNumber_89 (by decide) (fun c89 => ?_) (fun c89 => ?_)
  · have h := ite_t c89 h
    refine lv_ldc2 hx hb hown (hts _ kl_M_123) d_M_readNumber_96 ?_
    refine lv_lload_n hx hb d_M_readNumber_99 rfl (lv_at hl 3 rfl) ?_
    refine lv_lmul hx hb d_M_readNumber_100 ?_
    refine lv_aload_n hx hb d_M_readNumber_101 rfl (lv_at hl 1 rfl) ?_
    refine hg_r (j := 201) C hW 200 1 (hW.fx 200 rfl) rfl q_M (by decide) rfl (hW.fn (E := E1) (i := 200) (k := 1) rfl) (lkF C kf_M_7) d_M_readNumber_102 ?_
    refine lv_iload hx hb d_M_readNumber_105 (lv_at hl 4 rfl) ?_
    obtain ⟨g11, h⟩ := gd_some h
    refine ha_b C hW 201 (hW.fx 201 rfl) rfl rfl g11 d_M_readNumber_107 ?_
    refine lv_bipush (v := 48) hx hb d_M_readNumber_108 (by decide) ?_
    refine lv_isub hx hb d_M_readNumber_110 ?_
    refine lv_i2l (v := ((gF S 201 x5.toNatClampNeg) - (48 : Int32)).toInt64) hx hb d_M_readNumber_111 rfl ?_
    refine lv_ladd hx hb d_M_readNumber_112 ?_
    exact w_M_readNumber_113 C n kc hk x1 v10 x5 (((10 : Int64) * x3) + ((gF S 201 x5.toNatClampNeg) - (48 : Int32)).toInt64) h hW hS (lv_sub hl [1, 2, 0, 4] rfl)
  · have h := ite_f c89 h
    refine lv_lload_n hx hb d_M_readNumber_92 rfl (lv_at hl 3 rfl) ?_
    refine lv_goto (tgt := 113) hx hb d_M_readNumber_93 (by decide) ?_
    exact w_M_readNumber_113 C n kc hk x1 v10 x5 x3 h hW hS (lv_sub hl [1, 2, 0, 4] rfl)
set_option maxHeartbeats 4000000 in
set_option maxRecDepth 100000 in
theorem w_M_readNumber_82 (C : CB p s m args c meth b_M_readNumber "TwoLevelParserModel" 6 none D cA z ac) (n : Nat) (kc : Int32 → Int32 → Int64 → Int32 → HS → Option HS) {S' : HS} (hk : ∀ (x1 : Int32) (x2 : Int32) (x3 : Int64) (x5 : Int32) (S : HS) {H : Heap} {locs : List Loc} {ls : Array Slot}, kc x1 x2 x3 x5 S = some S' → HW D cA z ac E1 ad S H → va_S (zA z) s.heap H locs → lv_has ls 6 [(0, .ref (ad 200)), (1, .int (x1)), (2, .int (x2)), (3, .long (x3)), (5, .int (x5))] → GW p l e 1 s m args below meth c D cA z ac E1 ad none S' H locs (F0 m 52 ls [])) (x1 : Int32) (x3 : Int64) (x5 : Int32) {S : HS} {H : Heap} {locs : List Loc} {ls : Array Slot} (h : f_M_readNumber_b82 n kc x1 x3 x5 S = some S') (hW : HW D cA z ac E1 ad S H) (hS : va_S (zA z) s.heap H locs) (hl : lv_has ls 6 [(0, .ref (ad 200)), (1, .int (x1)), (3, .long (x3)), (5, .int (x5))]) : GW p l e 1 s m args below meth c D cA z ac E1 ad none S' H locs (F0 m 82 ls []) := by
  obtain ⟨⟨hx, hb, hml, hown, hts⟩, hK, hr, hlo⟩ := id C
  unfold f_M_readNumber_b82 at h
  refine lv_iconst (v := 0) hx hb d_M_readNumber_82 (by decide) ?_
  exact w_M_readNumber_83 C n kc hk x1 x3 x5 (0 : Int32) h hW hS (lv_sub hl [0, 1, 2, 3] rfl)
set_option maxHeartbeats 4000000 in
set_option maxRecDepth 100000 in
theorem w_M_readNumber_164 (C : CB p s m args c meth b_M_readNumber "TwoLevelParserModel" 6 none D cA z ac) (n : Nat) {S' : HS} (x3 : Int64) {S : HS} {H : Heap} {locs : List Loc} {ls : Array Slot} (h : f_M_readNumber_b164 n x3 S = some S') (hW : HW D cA z ac E1 ad S H) (hS : va_S (zA z) s.heap H locs) (hl : lv_has ls 6 [(0, .ref (ad 200)), (3, .long (x3))]) : GW p l e 1 s m args below meth c D cA z ac E1 ad none S' H locs (F0 m 164 ls []) := by
  obtain ⟨⟨hx, hb, hml, hown, hts⟩, hK, hr, hlo⟩ := id C
  unfold f_M_readNumber_b164 at h
  refine lv_aload_n hx hb d_M_readNumber_164 rfl (lv_at hl 0 rfl) ?_
  refine lv_lload_n hx hb d_M_readNumber_165 rfl (lv_at hl 1 rfl) ?_
  refine lv_l2i (v := x3.toInt32) hx hb d_M_readNumber_166 rfl ?_
  obtain ⟨S13, eS13, h⟩ := lt_some h
  refine hp_i C hW hS 200 9 (hW.fx 200 rfl) rfl q_M (by decide) rfl rfl rfl (lkF C kf_M_129) eS13 d_M_readNumber_167 (fun H locs hW hS => ?_)
  have h := Option.some.inj h
  subst h
  exact he_v C hW hS d_M_readNumber_170
set_option maxHeartbeats 4000000 in
set_option maxRecDepth 100000 in
theorem w_M_readNumber_155 (C : CB p s m args c meth b_M_readNumber "TwoLevelParserModel" 6 none D cA z ac) (n : Nat) {S' : HS} (x3 : Int64) {S : HS} {H : Heap} {locs : List Loc} {ls : Array Slot} (h : f_M_readNumber_b155 n x3 S = some S') (hW : HW D cA z ac E1 ad S H) (hS : va_S (zA z) s.heap H locs) (hl : lv_has ls 6 [(0, .ref (ad 200)), (3, .long (x3))]) : GW p l e 1 s m args below meth c D cA z ac E1 ad none S' H locs (F0 m 155 ls []) := by
  obtain ⟨⟨hx, hb, hml, hown, hts⟩, hK, hr, hlo⟩ := id C
  unfold f_M_readNumber_b155 at h
  refine lv_aload_n hx hb d_M_readNumber_155 rfl (lv_at hl 0 rfl) ?_
  refine lv_iconst (v := 1) hx hb d_M_readNumber_156 (by decide) ?_
  refine lv_aload_n hx hb d_M_readNumber_157 rfl (lv_at hl 0 rfl) ?_
  refine hg_i C hW 200 7 (hW.fx 200 rfl) rfl q_M (by decide) rfl (lkF C kf_M_96) d_M_readNumber_158 ?_
  obtain ⟨S12, eS12, h⟩ := ob_some h
  refine hx_V (i := 200) (As := [.int ((1 : Int32)), .int ((gF S 200 7))]) (rest := []) C hW hS (s_M_wrong (1 : Int32) (gF S 200 7) eS12) km_M_105 kv_M_wrong ke_M_wrong kn_M kw_M_wrong kd_M_wrong (hW.fx 200 rfl) rfl q_M rfl ⟨by decide, by decide⟩ ⟨Nat.zero_le _, Nat.zero_le _⟩ rfl hl.1 rfl (Nat.le_of_ble_eq_true rfl) d_M_readNumber_161 (fun H locs hW hS => ?_)
  exact w_M_readNumber_164 C n x3 h hW hS (lv_sub hl [0, 1] rfl)
set_option maxHeartbeats 4000000 in
set_option maxRecDepth 100000 in
theorem w_M_readNumber_134 (C : CB p s m args c meth b_M_readNumber "TwoLevelParserModel" 6 none D cA z ac) (n : Nat) {S' : HS} (x2 : Int32) (y0 : Int64) {S : HS} {H : Heap} {locs : List Loc} {ls : Array Slot} (h : f_M_readNumber_b134 n x2 y0 S = some S') (hW : HW D cA z ac E1 ad S H) (hS : va_S (zA z) s.heap H locs) (hl : lv_has ls 6 [(0, .ref (ad 200)), (2, .int (x2))]) : GW p l e 1 s m args below meth c D cA z ac E1 ad none S' H locs (F0 m 134 ls [.long (y0)]) := by
  obtain ⟨⟨hx, hb, hml, hown, hts⟩, hK, hr, hlo⟩ := id C
  unfold f_M_readNumber_b134 at h
  obtain ⟨v9, ev9, h⟩ := lt_some h
  refine lt_l_n (lv' := [(3, .long (v9)), (0, .ref (ad 200)), (2, .int (x2))]) C d_M_readNumber_134 rfl hl (by decide) ev9 rfl (fun ls hl => ?_)
  refine lv_iload_n hx hb d_M_readNumber_135 rfl (lv_at hl 2 rfl) ?_
  refine lv_if_eq (tgt := 155) hx hb d_M_readNumber_136 (by decide) (fun c136 => ?_) (fun c136 => ?_)
  · have h := ite_t c136 h
    exact w_M_readNumber_155 C n v9 h hW hS (lv_sub hl [1, 0] rfl)
  · have h := ite_f c136 h
    refine lv_lload_n hx hb d_M_readNumber_139 rfl (lv_at hl 0 rfl) ?_
    refine lv_ldc2 hx hb hown (hts _ kl_M_125) d_M_readNumber_140 ?_
    refine W.lcmp hx hb d_M_readNumber_143 ?_
    refine lv_if_lt (tgt := 155) hx hb d_M_readNumber_144 (by decide) (fun c144 => ?_) (fun c144 => ?_)
    · have h := ite_t c144 h
      exact w_M_readNumber_155 C n v9 h hW hS (lv_sub hl [1, 0] rfl)
    · have h := ite_f c144 h
      refine lv_lload_n hx hb d_M_readNumber_147 rfl (lv_at hl 0 rfl) ?_
      refine lv_ldc2 hx hb hown (hts _ kl_M_127) d_M_readNumber_148 ?_
      refine W.lcmp hx hb d_M_readNumber_151 ?_
      refine lv_if_le (tgt := 164) hx hb d_M_readNumber_152 (by decide) (fun c152 => ?_) (fun c152 => ?_)
      · have h := ite_t c152 h
        exact w_M_readNumber_164 C n v9 h hW hS (lv_sub hl [1, 0] rfl)
      · have h := ite_f c152 h
        exact w_M_readNumber_155 C n v9 h hW hS (lv_sub hl [1, 0] rfl)
set_option maxHeartbeats 4000000 in
set_option maxRecDepth 100000 in
theorem w_M_readNumber_52B (C : CB p s m args c meth b_M_readNumber "TwoLevelParserModel" 6 none D cA z ac) (n : Nat) (kc : Int32 → Int32 → Int64 → Int32 → HS → Option HS) {S' : HS} (hk : ∀ (x1 : Int32) (x2 : Int32) (x3 : Int64) (x5 : Int32) (S : HS) {H : Heap} {locs : List Loc} {ls : Array Slot}, kc x1 x2 x3 x5 S = some S' → HW D cA z ac E1 ad S H → va_S (zA z) s.heap H locs → lv_has ls 6 [(0, .ref (ad 200)), (1, .int (x1)), (2, .int (x2)), (3, .long (x3)), (5, .int (x5))] → GW p l e 1 s m args below meth c D cA z ac E1 ad none S' H locs (F0 m 52 ls [])) (x1 : Int32) (x2 : Int32) (x3 : Int64) (x5 : Int32) {S : HS} {H : Heap} {locs : List Loc} {ls : Array Slot} (h : f_M_readNumber_b52B n kc x1 x2 x3 x5 S = some S') (hW : HW D cA z ac E1 ad S H) (hS : va_S (zA z) s.heap H locs) (hl : lv_has ls 6 [(0, .ref (ad 200)), (1, .int (x1)), (2, .int (x2)), (3, .long (x3)), (5, .int (x5))]) : GW p l e 1 s m args below meth c D cA z ac E1 ad none S' H locs (F0 m 52 ls []) := by
  obtain ⟨⟨hx, hb, hml, hown, hts⟩, hK, hr, hlo⟩ := id C
  unfold f_M_readNumber_b52B at h
  refine lv_iload hx hb d_M_readNumber_52 (lv_at hl 4 rfl) ?_
  refine lv_aload_n hx hb d_M_readNumber_54 rfl (lv_at hl 0 rfl) ?_
  refine hg_i C hW 200 5 (hW.fx 200 rfl) rfl q_M (by decide) rfl (lkF C kf_M_93) d_M_readNumber_55 ?_
  refine lv_icmp_ge (tgt := 120) hx hb d_M_readNumber_58 (by decide) (fun c58 => ?_) (fun c58 => ?_)
  · have h := ite_t c58 h
    refine lv_iload_n hx hb d_M_readNumber_120 rfl (lv_at hl 1 rfl) ?_
    refine lv_aload_n hx hb d_M_readNumber_121 rfl (lv_at hl 0 rfl) ?_
    refine hg_i C hW 200 7 (hW.fx 200 rfl) rfl q_M (by decide) rfl (lkF C kf_M_96) d_M_readNumber_122 ?_
    refine lv_icmp_le (tgt := 133) hx hb d_M_readNumber_125 (by decide) (fun c125 => ?_) (fun c125 => ?_)
    · have h := ite_t c125 h
      refine lv_lload_n hx hb d_M_readNumber_133 rfl (lv_at hl 3 rfl) ?_
      exact w_M_readNumber_134 C n x2 x3 h hW hS (lv_sub hl [0, 2] rfl)
    · have h := ite_f c125 h
      refine lv_lload_n hx hb d_M_readNumber_128 rfl (lv_at hl 3 rfl) ?_
      refine lv_lneg hx hb d_M_readNumber_129 ?_
      refine lv_goto (tgt := 134) hx hb d_M_readNumber_130 (by decide) ?_
      exact w_M_readNumber_134 C n x2 (-x3) h hW hS (lv_sub hl [0, 2] rfl)
  · have h := ite_f c58 h
    refine lv_iload_n hx hb d_M_readNumber_61 rfl (lv_at hl 2 rfl) ?_
    refine lv_if_eq (tgt := 82) hx hb d_M_readNumber_62 (by decide) (fun c62 => ?_) (fun c62 => ?_)
    · have h := ite_t c62 h
      exact w_M_readNumber_82 C n kc hk x1 x3 x5 h hW hS (lv_sub hl [0, 1, 3, 4] rfl)
    · have h := ite_f c62 h
      refine lv_aload_n hx hb d_M_readNumber_65 rfl (lv_at hl 0 rfl) ?_
      refine hg_r (j := 201) C hW 200 1 (hW.fx 200 rfl) rfl q_M (by decide) rfl (hW.fn (E := E1) (i := 200) (k := 1) rfl) (lkF C kf_M_7) d_M_readNumber_66 ?_
      refine lv_iload hx hb d_M_readNumber_69 (lv_at hl 4 rfl) ?_
      obtain ⟨g7, h⟩ := gd_some h
      refine ha_b C hW 201 (hW.fx 201 rfl) rfl rfl g7 d_M_readNumber_71 ?_
      obtain ⟨r8, er8, h⟩ := ob_some h
      refine hx_S (As := [.int ((gF S 201 x5.toNatClampNeg))]) (rest := []) C hW hS (s_M_isDigit (gF S 201 x5.toNatClampNeg) er8) km_M_90 kv_M_isDigit kn_M kw_M_isDigit kd_M_isDigit ⟨by decide, by decide⟩ ⟨Nat.zero_le _, Nat.zero_le _⟩ rfl hl.1 rfl (Nat.le_of_ble_eq_true rfl) d_M_readNumber_72 (fun H locs hW hS => ?_)
      refine lv_if_eq (tgt := 82) hx hb d_M_readNumber_75 (by decide) (fun c75 => ?_) (fun c75 => ?_)
      · have h := ite_t c75 h
        exact w_M_readNumber_82 C n kc hk x1 x3 x5 h hW hS (lv_sub hl [0, 1, 3, 4] rfl)
      · have h := ite_f c75 h
        refine lv_iconst (v := 1) hx hb d_M_readNumber_78 (by decide) ?_
        refine lv_goto (tgt := 83) hx hb d_M_readNumber_79 (by decide) ?_
        exact w_M_readNumber_83 C n kc hk x1 x3 x5 (1 : Int32) h hW hS (lv_sub hl [0, 1, 3, 4] rfl)
set_option maxHeartbeats 4000000 in
set_option maxRecDepth 100000 in
theorem w_M_readNumber_52 (C : CB p s m args c meth b_M_readNumber "TwoLevelParserModel" 6 none D cA z ac) (n : Nat) (k : Nat) {S' : HS} : ∀ (x1 : Int32) (x2 : Int32) (x3 : Int64) (x5 : Int32) {S : HS} {H : Heap} {locs : List Loc} {ls : Array Slot}, f_M_readNumber_b52 n k x1 x2 x3 x5 S = some S' → HW D cA z ac E1 ad S H → va_S (zA z) s.heap H locs → lv_has ls 6 [(0, .ref (ad 200)), (1, .int (x1)), (2, .int (x2)), (3, .long (x3)), (5, .int (x5))] → GW p l e 1 s m args below meth c D cA z ac E1 ad none S' H locs (F0 m 52 ls []) := by
  induction k with
  | zero => intro x1 x2 x3 x5 S H locs ls h; cases h
  | succ k ih => intro x1 x2 x3 x5 S H locs ls h hW hS hl; exact w_M_readNumber_52B C n (f_M_readNumber_b52 n k) (fun x1 x2 x3 x5 S H locs ls h hW hS hl => ih x1 x2 x3 x5 h hW hS hl) x1 x2 x3 x5 h hW hS hl
set_option maxHeartbeats 4000000 in
set_option maxRecDepth 100000 in
theorem w_M_readNumber_46 (C : CB p s m args c meth b_M_readNumber "TwoLevelParserModel" 6 none D cA z ac) (n : Nat) {S' : HS} (x1 : Int32) (y0 : Int32) {S : HS} {H : Heap} {locs : List Loc} {ls : Array Slot} (h : f_M_readNumber_b46 n x1 y0 S = some S') (hW : HW D cA z ac E1 ad S H) (hS : va_S (zA z) s.heap H locs) (hl : lv_has ls 6 [(0, .ref (ad 200)), (1, .int (x1))]) : GW p l e 1 s m args below meth c D cA z ac E1 ad none S' H locs (F0 m 46 ls [.int (y0)]) := by
  obtain ⟨⟨hx, hb, hml, hown, hts⟩, hK, hr, hlo⟩ := id C
  unfold f_M_readNumber_b46 at h
  obtain ⟨v4, ev4, h⟩ := lt_some h
  refine lt_i_n (lv' := [(2, .int (v4)), (0, .ref (ad 200)), (1, .int (x1))]) C d_M_readNumber_46 rfl hl (by decide) ev4 rfl (fun ls hl => ?_)
  refine lv_lconst (v := 0) hx hb d_M_readNumber_47 (by decide) ?_
  obtain ⟨v5, ev5, h⟩ := lt_some h
  refine lt_l_n (lv' := [(3, .long (v5)), (2, .int (v4)), (0, .ref (ad 200)), (1, .int (x1))]) C d_M_readNumber_48 rfl hl (by decide) ev5 rfl (fun ls hl => ?_)
  refine lv_iload_n hx hb d_M_readNumber_49 rfl (lv_at hl 3 rfl) ?_
  obtain ⟨v6, ev6, h⟩ := lt_some h
  refine lt_i (lv' := [(5, .int (v6)), (3, .long (v5)), (2, .int (v4)), (0, .ref (ad 200)), (1, .int (x1))]) C d_M_readNumber_50 hl (by decide) ev6 rfl (fun ls hl => ?_)
  exact w_M_readNumber_52 C n n x1 v4 v5 v6 h hW hS (lv_sub hl [3, 4, 2, 1, 0] rfl)
set_option maxHeartbeats 4000000 in
set_option maxRecDepth 100000 in
theorem w_M_readNumber_32 (C : CB p s m args c meth b_M_readNumber "TwoLevelParserModel" 6 none D cA z ac) (n : Nat) {S' : HS} (y0 : Int32) {S : HS} {H : Heap} {locs : List Loc} {ls : Array Slot} (h : f_M_readNumber_b32 n y0 S = some S') (hW : HW D cA z ac E1 ad S H) (hS : va_S (zA z) s.heap H locs) (hl : lv_has ls 6 [(0, .ref (ad 200))]) : GW p l e 1 s m args below meth c D cA z ac E1 ad none S' H locs (F0 m 32 ls [.int (y0)]) := by
  obtain ⟨⟨hx, hb, hml, hown, hts⟩, hK, hr, hlo⟩ := id C
  unfold f_M_readNumber_b32 at h
  obtain ⟨v3, ev3, h⟩ := lt_some h
  refine lt_i_n (lv' := [(1, .int (v3)), (0, .ref (ad 200))]) C d_M_readNumber_32 rfl hl (by decide) ev3 rfl (fun ls hl => ?_)
  refine lv_iload_n hx hb d_M_readNumber_33 rfl (lv_at hl 0 rfl) ?_
  refine lv_aload_n hx hb d_M_readNumber_34 rfl (lv_at hl 1 rfl) ?_
  refine hg_i C hW 200 5 (hW.fx 200 rfl) rfl q_M (by decide) rfl (lkF C kf_M_93) d_M_readNumber_35 ?_
  refine lv_icmp_ge (tgt := 45) hx hb d_M_readNumber_38 (by decide) (fun c38 => ?_) (fun c38 => ?_)
  · have h := ite_t c38 h
    refine lv_iconst (v := 0) hx hb d_M_readNumber_45 (by decide) ?_
    exact w_M_readNumber_46 C n v3 (0 : Int32) h hW hS (lv_sub hl [1, 0] rfl)
  · have h := ite_f c38 h
    refine lv_iconst (v := 1) hx hb d_M_readNumber_41 (by decide) ?_
    refine lv_goto (tgt := 46) hx hb d_M_readNumber_42 (by decide) ?_
    exact w_M_readNumber_46 C n v3 (1 : Int32) h hW hS (lv_sub hl [1, 0] rfl)
set_option maxHeartbeats 4000000 in
set_option maxRecDepth 100000 in
theorem s_M_readNumber (n : Nat) {S : HS} {S' : HS} (h : f_M_readNumber n S = some S') : Met l y_M_readNumber (.code y_M_readNumber b_M_readNumber 6 none :: lw_g) (rmD 1 0 0) (PcH D cA z ac E1 ad [.ref (ad 200)] S) (QN D cA z ac E1 ad none S') 0 0 (zA z) := by
  refine Met.ofH (own := "TwoLevelParserModel") (by decide) rfl (Nat.le_of_ble_eq_true rfl) ?_
  intro p e s m args below meth c H ls C hW hS hl
  have hl : lv_has ls 6 [(0, .ref (ad 200))] := hl
  obtain ⟨⟨hx, hb, hml, hown, hts⟩, hK, hr, hlo⟩ := id C
  unfold f_M_readNumber at h
  refine lv_aload_n hx hb d_M_readNumber_0 rfl (lv_at hl 0 rfl) ?_
  refine lv_iconst (v := 3) hx hb d_M_readNumber_1 (by decide) ?_
  obtain ⟨S1, eS1, h⟩ := lt_some h
  refine hp_i C hW hS 200 6 (hW.fx 200 rfl) rfl q_M (by decide) rfl rfl rfl (lkF C kf_M_99) eS1 d_M_readNumber_2 (fun H locs hW hS => ?_)
  refine lv_aload_n hx hb d_M_readNumber_5 rfl (lv_at hl 0 rfl) ?_
  refine hg_r (j := 201) C hW 200 1 (hW.fx 200 rfl) rfl q_M (by decide) rfl (hW.fn (E := E1) (i := 200) (k := 1) rfl) (lkF C kf_M_7) d_M_readNumber_6 ?_
  refine lv_aload_n hx hb d_M_readNumber_9 rfl (lv_at hl 0 rfl) ?_
  refine hg_i C hW 200 7 (hW.fx 200 rfl) rfl q_M (by decide) rfl (lkF C kf_M_96) d_M_readNumber_10 ?_
  obtain ⟨g2, h⟩ := gd_some h
  refine ha_b C hW 201 (hW.fx 201 rfl) rfl rfl g2 d_M_readNumber_13 ?_
  refine lv_bipush (v := 45) hx hb d_M_readNumber_14 (by decide) ?_
  refine lv_icmp_ne (tgt := 28) hx hb d_M_readNumber_16 (by decide) (fun c16 => ?_) (fun c16 => ?_)
  · have h := ite_f c16 h
    refine lv_aload_n hx hb d_M_readNumber_28 rfl (lv_at hl 0 rfl) ?_
    refine hg_i C hW 200 7 (hW.fx 200 rfl) rfl q_M (by decide) rfl (lkF C kf_M_96) d_M_readNumber_29 ?_
    exact w_M_readNumber_32 C n (gF S1 200 7) h hW hS (lv_sub hl [0] rfl)
  · have h := ite_t c16 h
    refine lv_aload_n hx hb d_M_readNumber_19 rfl (lv_at hl 0 rfl) ?_
    refine hg_i C hW 200 7 (hW.fx 200 rfl) rfl q_M (by decide) rfl (lkF C kf_M_96) d_M_readNumber_20 ?_
    refine lv_iconst (v := 1) hx hb d_M_readNumber_23 (by decide) ?_
    refine lv_iadd hx hb d_M_readNumber_24 ?_
    refine lv_goto (tgt := 32) hx hb d_M_readNumber_25 (by decide) ?_
    exact w_M_readNumber_32 C n ((gF S1 200 7) + (1 : Int32)) h hW hS (lv_sub hl [0] rfl)
end WK
def f_M_next_b39 (n : Nat) (kc : HS → Option HS) (S : HS) : Option HS :=
  lt (sF S 200 5 ((gF S 200 5) + (1 : Int32))) fun S7 =>
  kc S7
def f_M_next_b125 (n : Nat) (y0 : Int32) (S : HS) : Option HS :=
  lt (sF S 200 6 y0) fun S16 =>
  lt (sF S16 200 5 ((gF S16 200 5) + (1 : Int32))) fun S17 =>
  some S17
def f_M_next_b105 (n : Nat) (S : HS) : Option HS :=
  gd (inR (gF S 200 5) 8192) <|
  (if (gF S 201 (gF S 200 5).toNatClampNeg) = (40 : Int32) then
  f_M_next_b125 n (0 : Int32) S
  else
  f_M_next_b125 n (1 : Int32) S)
def f_M_next_b139B (n : Nat) (kc : HS → Option HS) (S : HS) : Option HS :=
  ob (f_M_isRun (gF S 200 5) S) fun r9 =>
  (if r9 = 0 then
  (if (gF S 200 5) = (gF S 200 7) then
  ob (f_M_wrong (1 : Int32) (gF S 200 7) S) fun S14 =>
  some S14
  else
  gd (inR (gF S 200 7) 8192) <|
  ob (f_M_isLetter (gF S 201 (gF S 200 7).toNatClampNeg)) fun r11 =>
  (if r11 = 0 then
  ob (f_M_readNumber n S) fun S12 =>
  some S12
  else
  ob (f_M_readName n S) fun S13 =>
  some S13))
  else
  lt (sF S 200 5 ((gF S 200 5) + (1 : Int32))) fun S15 =>
  kc S15)
def f_M_next_b139 (n : Nat) (k : Nat) : HS → Option HS := lpF (fun _ => none) (f_M_next_b139B n) k
def f_M_next_b52 (n : Nat) (S : HS) : Option HS :=
  lt (sF S 200 7 (gF S 200 5)) fun S3 =>
  (if (gF S3 200 5) = (gF S3 200 2) then
  lt (sF S3 200 6 (4 : Int32)) fun S6 =>
  some S6
  else
  gd (inR (gF S3 200 5) 8192) <|
  (if (gF S3 201 (gF S3 200 5).toNatClampNeg) = (40 : Int32) then
  f_M_next_b105 n S3
  else
  gd (inR (gF S3 200 5) 8192) <|
  (if (gF S3 201 (gF S3 200 5).toNatClampNeg) = (41 : Int32) then
  f_M_next_b105 n S3
  else
  f_M_next_b139 n n S3)))
def f_M_next_b0B (n : Nat) (kc : HS → Option HS) (S : HS) : Option HS :=
  (if (gF S 200 2) ≤ (gF S 200 5) then
  f_M_next_b52 n S
  else
  gd (inR (gF S 200 5) 8192) <|
  (if (gF S 201 (gF S 200 5).toNatClampNeg) = (32 : Int32) then
  f_M_next_b39 n kc S
  else
  gd (inR (gF S 200 5) 8192) <|
  (if (gF S 201 (gF S 200 5).toNatClampNeg) = (10 : Int32) then
  f_M_next_b39 n kc S
  else
  f_M_next_b52 n S)))
def f_M_next_b0 (n : Nat) (k : Nat) : HS → Option HS := lpF (fun _ => none) (f_M_next_b0B n) k
def f_M_next (n : Nat) (S : HS) : Option HS :=
  f_M_next_b0 n n S
section WK
variable {p : Program} {l : Launch} {e : Env} {s : State} {m : MethodId} {args : Array Value} {below : List Frame} {meth : Method} {c : Code} {D : va_G} {cA : Nat → ClassId} {z : Nat} {ac : Nat → Nat} {ad : Nat → Nat}
set_option maxHeartbeats 4000000 in
set_option maxRecDepth 100000 in
theorem w_M_next_39 (C : CB p s m args c meth b_M_next "TwoLevelParserModel" 1 none D cA z ac) (n : Nat) (kc : HS → Option HS) {S' : HS} (hk : ∀ (S : HS) {H : Heap} {locs : List Loc} {ls : Array Slot}, kc S = some S' → HW D cA z ac E1 ad S H → va_S (zA z) s.heap H locs → lv_has ls 1 [(0, .ref (ad 200))] → GW p l e 2 s m args below meth c D cA z ac E1 ad none S' H locs (F0 m 0 ls [])) {S : HS} {H : Heap} {locs : List Loc} {ls : Array Slot} (h : f_M_next_b39 n kc S = some S') (hW : HW D cA z ac E1 ad S H) (hS : va_S (zA z) s.heap H locs) (hl : lv_has ls 1 [(0, .ref (ad 200))]) : GW p l e 2 s m args below meth c D cA z ac E1 ad none S' H locs (F0 m 39 ls []) := by
  obtain ⟨⟨hx, hb, hml, hown, hts⟩, hK, hr, hlo⟩ := id C
  unfold f_M_next_b39 at h
  refine lv_aload_n hx hb d_M_next_39 rfl (lv_at hl 0 rfl) ?_
  refine lv_dup hx hb d_M_next_40 rfl ?_
  refine hg_i C hW 200 5 (hW.fx 200 rfl) rfl q_M (by decide) rfl (lkF C kf_M_93) d_M_next_41 ?_
  refine lv_iconst (v := 1) hx hb d_M_next_44 (by decide) ?_
  refine lv_iadd hx hb d_M_next_45 ?_
  obtain ⟨S7, eS7, h⟩ := lt_some h
  refine hp_i C hW hS 200 5 (hW.fx 200 rfl) rfl q_M (by decide) rfl rfl rfl (lkF C kf_M_93) eS7 d_M_next_46 (fun H locs hW hS => ?_)
  refine lv_goto (tgt := 0) hx hb d_M_next_49 (by decide) ?_
  exact hk _ h hW hS (lv_sub hl [0] rfl)
set_option maxHeartbeats 4000000 in
set_option maxRecDepth 100000 in
theorem w_M_next_125 (C : CB p s m args c meth b_M_next "TwoLevelParserModel" 1 none D cA z ac) (n : Nat) {S' : HS} (y0 : Int32) {S : HS} {H : Heap} {locs : List Loc} {ls : Array Slot} (h : f_M_next_b125 n y0 S = some S') (hW : HW D cA z ac E1 ad S H) (hS : va_S (zA z) s.heap H locs) (hl : lv_has ls 1 [(0, .ref (ad 200))]) : GW p l e 2 s m args below meth c D cA z ac E1 ad none S' H locs (F0 m 125 ls [.int (y0), .ref (ad 200)]) := by
  obtain ⟨⟨hx, hb, hml, hown, hts⟩, hK, hr, hlo⟩ := id C
  unfold f_M_next_b125 at h
  obtain ⟨S16, eS16, h⟩ := lt_some h
  refine hp_i C hW hS 200 6 (hW.fx 200 rfl) rfl q_M (by decide) rfl rfl rfl (lkF C kf_M_99) eS16 d_M_next_125 (fun H locs hW hS => ?_)
  refine lv_aload_n hx hb d_M_next_128 rfl (lv_at hl 0 rfl) ?_
  refine lv_dup hx hb d_M_next_129 rfl ?_
  refine hg_i C hW 200 5 (hW.fx 200 rfl) rfl q_M (by decide) rfl (lkF C kf_M_93) d_M_next_130 ?_
  refine lv_iconst (v := 1) hx hb d_M_next_133 (by decide) ?_
  refine lv_iadd hx hb d_M_next_134 ?_
  obtain ⟨S17, eS17, h⟩ := lt_some h
  refine hp_i C hW hS 200 5 (hW.fx 200 rfl) rfl q_M (by decide) rfl rfl rfl (lkF C kf_M_93) eS17 d_M_next_135 (fun H locs hW hS => ?_)
  have h := Option.some.inj h
  subst h
  exact he_v C hW hS d_M_next_138
set_option maxHeartbeats 4000000 in
set_option maxRecDepth 100000 in
theorem w_M_next_105 (C : CB p s m args c meth b_M_next "TwoLevelParserModel" 1 none D cA z ac) (n : Nat) {S' : HS} {S : HS} {H : Heap} {locs : List Loc} {ls : Array Slot} (h : f_M_next_b105 n S = some S') (hW : HW D cA z ac E1 ad S H) (hS : va_S (zA z) s.heap H locs) (hl : lv_has ls 1 [(0, .ref (ad 200))]) : GW p l e 2 s m args below meth c D cA z ac E1 ad none S' H locs (F0 m 105 ls []) := by
  obtain ⟨⟨hx, hb, hml, hown, hts⟩, hK, hr, hlo⟩ := id C
  unfold f_M_next_b105 at h
  refine lv_aload_n hx hb d_M_next_105 rfl (lv_at hl 0 rfl) ?_
  refine lv_aload_n hx hb d_M_next_106 rfl (lv_at hl 0 rfl) ?_
  refine hg_r (j := 201) C hW 200 1 (hW.fx 200 rfl) rfl q_M (by decide) rfl (hW.fn (E := E1) (i := 200) (k := 1) rfl) (lkF C kf_M_7) d_M_next_107 ?_
  refine lv_aload_n hx hb d_M_next_110 rfl (lv_at hl 0 rfl) ?_
  refine hg_i C hW 200 5 (hW.fx 200 rfl) rfl q_M (by decide) rfl (lkF C kf_M_93) d_M_next_111 ?_
  obtain ⟨g8, h⟩ := gd_some h
  refine ha_b C hW 201 (hW.fx 201 rfl) rfl rfl g8 d_M_next_114 ?_
  refine lv_bipush (v := 40) hx hb d_M_next_115 (by decide) ?_
  refine lv_icmp_ne (tgt := 124) hx hb d_M_next_117 (by decide) (fun c117 => ?_) (fun c117 => ?_)
  · have h := ite_f c117 h
    refine lv_iconst (v := 1) hx hb d_M_next_124 (by decide) ?_
    exact w_M_next_125 C n (1 : Int32) h hW hS (lv_sub hl [0] rfl)
  · have h := ite_t c117 h
    refine lv_iconst (v := 0) hx hb d_M_next_120 (by decide) ?_
    refine lv_goto (tgt := 125) hx hb d_M_next_121 (by decide) ?_
    exact w_M_next_125 C n (0 : Int32) h hW hS (lv_sub hl [0] rfl)
set_option maxHeartbeats 4000000 in
set_option maxRecDepth 100000 in
theorem w_M_next_139B (C : CB p s m args c meth b_M_next "TwoLevelParserModel" 1 none D cA z ac) (n : Nat) (kc : HS → Option HS) {S' : HS} (hk : ∀ (S : HS) {H : Heap} {locs : List Loc} {ls : Array Slot}, kc S = some S' → HW D cA z ac E1 ad S H → va_S (zA z) s.heap H locs → lv_has ls 1 [(0, .ref (ad 200))] → GW p l e 2 s m args below meth c D cA z ac E1 ad none S' H locs (F0 m 139 ls [])) {S : HS} {H : Heap} {locs : List Loc} {ls : Array Slot} (h : f_M_next_b139B n kc S = some S') (hW : HW D cA z ac E1 ad S H) (hS : va_S (zA z) s.heap H locs) (hl : lv_has ls 1 [(0, .ref (ad 200))]) : GW p l e 2 s m args below meth c D cA z ac E1 ad none S' H locs (F0 m 139 ls []) := by
  obtain ⟨⟨hx, hb, hml, hown, hts⟩, hK, hr, hlo⟩ := id C
  unfold f_M_next_b139B at h
  refine lv_aload_n hx hb d_M_next_139 rfl (lv_at hl 0 rfl) ?_
  refine lv_aload_n hx hb d_M_next_140 rfl (lv_at hl 0 rfl) ?_
  refine hg_i C hW 200 5 (hW.fx 200 rfl) rfl q_M (by decide) rfl (lkF C kf_M_93) d_M_next_141 ?_
  obtain ⟨r9, er9, h⟩ := ob_some h
  refine hx_V (i := 200) (As := [.int ((gF S 200 5))]) (rest := []) C hW hS (s_M_isRun (gF S 200 5) er9) km_M_102 kv_M_isRun ke_M_isRun kn_M kw_M_isRun kd_M_isRun (hW.fx 200 rfl) rfl q_M rfl ⟨by decide, by decide⟩ ⟨Nat.zero_le _, Nat.zero_le _⟩ rfl hl.1 rfl (Nat.le_of_ble_eq_true rfl) d_M_next_144 (fun H locs hW hS => ?_)
  refine lv_if_eq (tgt := 163) hx hb d_M_next_147 (by decide) (fun c147 => ?_) (fun c147 => ?_)
  · have h := ite_t c147 h
    refine lv_aload_n hx hb d_M_next_163 rfl (lv_at hl 0 rfl) ?_
    refine hg_i C hW 200 5 (hW.fx 200 rfl) rfl q_M (by decide) rfl (lkF C kf_M_93) d_M_next_164 ?_
    refine lv_aload_n hx hb d_M_next_167 rfl (lv_at hl 0 rfl) ?_
    refine hg_i C hW 200 7 (hW.fx 200 rfl) rfl q_M (by decide) rfl (lkF C kf_M_96) d_M_next_168 ?_
    refine lv_icmp_ne (tgt := 184) hx hb d_M_next_171 (by decide) (fun c171 => ?_) (fun c171 => ?_)
    · have h := ite_f c171 h
      refine lv_aload_n hx hb d_M_next_184 rfl (lv_at hl 0 rfl) ?_
      refine hg_r (j := 201) C hW 200 1 (hW.fx 200 rfl) rfl q_M (by decide) rfl (hW.fn (E := E1) (i := 200) (k := 1) rfl) (lkF C kf_M_7) d_M_next_185 ?_
      refine lv_aload_n hx hb d_M_next_188 rfl (lv_at hl 0 rfl) ?_
      refine hg_i C hW 200 7 (hW.fx 200 rfl) rfl q_M (by decide) rfl (lkF C kf_M_96) d_M_next_189 ?_
      obtain ⟨g10, h⟩ := gd_some h
      refine ha_b C hW 201 (hW.fx 201 rfl) rfl rfl g10 d_M_next_192 ?_
      obtain ⟨r11, er11, h⟩ := ob_some h
      refine hx_S (As := [.int ((gF S 201 (gF S 200 7).toNatClampNeg))]) (rest := []) C hW hS (s_M_isLetter (gF S 201 (gF S 200 7).toNatClampNeg) er11) km_M_86 kv_M_isLetter kn_M kw_M_isLetter kd_M_isLetter ⟨by decide, by decide⟩ ⟨Nat.zero_le _, Nat.zero_le _⟩ rfl hl.1 rfl (Nat.le_of_ble_eq_true rfl) d_M_next_193 (fun H locs hW hS => ?_)
      refine lv_if_eq (tgt := 206) hx hb d_M_next_196 (by decide) (fun c196 => ?_) (fun c196 => ?_)
      · have h := ite_t c196 h
        refine lv_aload_n hx hb d_M_next_206 rfl (lv_at hl 0 rfl) ?_
        obtain ⟨S12, eS12, h⟩ := ob_some h
        refine hx_V (i := 200) (As := []) (rest := []) C hW hS (s_M_readNumber n eS12) km_M_112 kv_M_readNumber ke_M_readNumber kn_M kw_M_readNumber kd_M_readNumber (hW.fx 200 rfl) rfl q_M rfl ⟨by decide, by decide⟩ ⟨Nat.zero_le _, Nat.zero_le _⟩ rfl hl.1 rfl (Nat.le_of_ble_eq_true rfl) d_M_next_207 (fun H locs hW hS => ?_)
        have h := Option.some.inj h
        subst h
        exact he_v C hW hS d_M_next_210
      · have h := ite_f c196 h
        refine lv_aload_n hx hb d_M_next_199 rfl (lv_at hl 0 rfl) ?_
        obtain ⟨S13, eS13, h⟩ := ob_some h
        refine hx_V (i := 200) (As := []) (rest := []) C hW hS (s_M_readName n eS13) km_M_109 kv_M_readName ke_M_readName kn_M kw_M_readName kd_M_readName (hW.fx 200 rfl) rfl q_M rfl ⟨by decide, by decide⟩ ⟨Nat.zero_le _, Nat.zero_le _⟩ rfl hl.1 rfl (Nat.le_of_ble_eq_true rfl) d_M_next_200 (fun H locs hW hS => ?_)
        refine lv_goto (tgt := 210) hx hb d_M_next_203 (by decide) ?_
        have h := Option.some.inj h
        subst h
        exact he_v C hW hS d_M_next_210
    · have h := ite_t c171 h
      refine lv_aload_n hx hb d_M_next_174 rfl (lv_at hl 0 rfl) ?_
      refine lv_iconst (v := 1) hx hb d_M_next_175 (by decide) ?_
      refine lv_aload_n hx hb d_M_next_176 rfl (lv_at hl 0 rfl) ?_
      refine hg_i C hW 200 7 (hW.fx 200 rfl) rfl q_M (by decide) rfl (lkF C kf_M_96) d_M_next_177 ?_
      obtain ⟨S14, eS14, h⟩ := ob_some h
      refine hx_V (i := 200) (As := [.int ((1 : Int32)), .int ((gF S 200 7))]) (rest := []) C hW hS (s_M_wrong (1 : Int32) (gF S 200 7) eS14) km_M_105 kv_M_wrong ke_M_wrong kn_M kw_M_wrong kd_M_wrong (hW.fx 200 rfl) rfl q_M rfl ⟨by decide, by decide⟩ ⟨Nat.zero_le _, Nat.zero_le _⟩ rfl hl.1 rfl (Nat.le_of_ble_eq_true rfl) d_M_next_180 (fun H locs hW hS => ?_)
      have h := Option.some.inj h
      subst h
      exact he_v C hW hS d_M_next_183
  · have h := ite_f c147 h
    refine lv_aload_n hx hb d_M_next_150 rfl (lv_at hl 0 rfl) ?_
    refine lv_dup hx hb d_M_next_151 rfl ?_
    refine hg_i C hW 200 5 (hW.fx 200 rfl) rfl q_M (by decide) rfl (lkF C kf_M_93) d_M_next_152 ?_
    refine lv_iconst (v := 1) hx hb d_M_next_155 (by decide) ?_
    refine lv_iadd hx hb d_M_next_156 ?_
    obtain ⟨S15, eS15, h⟩ := lt_some h
    refine hp_i C hW hS 200 5 (hW.fx 200 rfl) rfl q_M (by decide) rfl rfl rfl (lkF C kf_M_93) eS15 d_M_next_157 (fun H locs hW hS => ?_)
    refine lv_goto (tgt := 139) hx hb d_M_next_160 (by decide) ?_
    exact hk _ h hW hS (lv_sub hl [0] rfl)
set_option maxHeartbeats 4000000 in
set_option maxRecDepth 100000 in
theorem w_M_next_139 (C : CB p s m args c meth b_M_next "TwoLevelParserModel" 1 none D cA z ac) (n : Nat) (k : Nat) {S' : HS} : ∀ {S : HS} {H : Heap} {locs : List Loc} {ls : Array Slot}, f_M_next_b139 n k S = some S' → HW D cA z ac E1 ad S H → va_S (zA z) s.heap H locs → lv_has ls 1 [(0, .ref (ad 200))] → GW p l e 2 s m args below meth c D cA z ac E1 ad none S' H locs (F0 m 139 ls []) := by
  induction k with
  | zero => intro S H locs ls h; cases h
  | succ k ih => intro S H locs ls h hW hS hl; exact w_M_next_139B C n (f_M_next_b139 n k) (fun S H locs ls h hW hS hl => ih h hW hS hl) h hW hS hl
set_option maxHeartbeats 4000000 in
set_option maxRecDepth 100000 in
theorem w_M_next_52 (C : CB p s m args c meth b_M_next "TwoLevelParserModel" 1 none D cA z ac) (n : Nat) {S' : HS} {S : HS} {H : Heap} {locs : List Loc} {ls : Array Slot} (h : f_M_next_b52 n S = some S') (hW : HW D cA z ac E1 ad S H) (hS : va_S (zA z) s.heap H locs) (hl : lv_has ls 1 [(0, .ref (ad 200))]) : GW p l e 2 s m args below meth c D cA z ac E1 ad none S' H locs (F0 m 52 ls []) := by
  obtain ⟨⟨hx, hb, hml, hown, hts⟩, hK, hr, hlo⟩ := id C
  unfold f_M_next_b52 at h
  refine lv_aload_n hx hb d_M_next_52 rfl (lv_at hl 0 rfl) ?_
  refine lv_aload_n hx hb d_M_next_53 rfl (lv_at hl 0 rfl) ?_
  refine hg_i C hW 200 5 (hW.fx 200 rfl) rfl q_M (by decide) rfl (lkF C kf_M_93) d_M_next_54 ?_
  obtain ⟨S3, eS3, h⟩ := lt_some h
  refine hp_i C hW hS 200 7 (hW.fx 200 rfl) rfl q_M (by decide) rfl rfl rfl (lkF C kf_M_96) eS3 d_M_next_57 (fun H locs hW hS => ?_)
  refine lv_aload_n hx hb d_M_next_60 rfl (lv_at hl 0 rfl) ?_
  refine hg_i C hW 200 5 (hW.fx 200 rfl) rfl q_M (by decide) rfl (lkF C kf_M_93) d_M_next_61 ?_
  refine lv_aload_n hx hb d_M_next_64 rfl (lv_at hl 0 rfl) ?_
  refine hg_i C hW 200 2 (hW.fx 200 rfl) rfl q_M (by decide) rfl (lkF C kf_M_80) d_M_next_65 ?_
  refine lv_icmp_ne (tgt := 77) hx hb d_M_next_68 (by decide) (fun c68 => ?_) (fun c68 => ?_)
  · have h := ite_f c68 h
    refine lv_aload_n hx hb d_M_next_77 rfl (lv_at hl 0 rfl) ?_
    refine hg_r (j := 201) C hW 200 1 (hW.fx 200 rfl) rfl q_M (by decide) rfl (hW.fn (E := E1) (i := 200) (k := 1) rfl) (lkF C kf_M_7) d_M_next_78 ?_
    refine lv_aload_n hx hb d_M_next_81 rfl (lv_at hl 0 rfl) ?_
    refine hg_i C hW 200 5 (hW.fx 200 rfl) rfl q_M (by decide) rfl (lkF C kf_M_93) d_M_next_82 ?_
    obtain ⟨g4, h⟩ := gd_some h
    refine ha_b C hW 201 (hW.fx 201 rfl) rfl rfl g4 d_M_next_85 ?_
    refine lv_bipush (v := 40) hx hb d_M_next_86 (by decide) ?_
    refine lv_icmp_eq (tgt := 105) hx hb d_M_next_88 (by decide) (fun c88 => ?_) (fun c88 => ?_)
    · have h := ite_t c88 h
      exact w_M_next_105 C n h hW hS (lv_sub hl [0] rfl)
    · have h := ite_f c88 h
      refine lv_aload_n hx hb d_M_next_91 rfl (lv_at hl 0 rfl) ?_
      refine hg_r (j := 201) C hW 200 1 (hW.fx 200 rfl) rfl q_M (by decide) rfl (hW.fn (E := E1) (i := 200) (k := 1) rfl) (lkF C kf_M_7) d_M_next_92 ?_
      refine lv_aload_n hx hb d_M_next_95 rfl (lv_at hl 0 rfl) ?_
      refine hg_i C hW 200 5 (hW.fx 200 rfl) rfl q_M (by decide) rfl (lkF C kf_M_93) d_M_next_96 ?_
      obtain ⟨g5, h⟩ := gd_some h
      refine ha_b C hW 201 (hW.fx 201 rfl) rfl rfl g5 d_M_next_99 ?_
      refine lv_bipush (v := 41) hx hb d_M_next_100 (by decide) ?_
      refine lv_icmp_ne (tgt := 139) hx hb d_M_next_102 (by decide) (fun c102 => ?_) (fun c102 => ?_)
      · have h := ite_f c102 h
        exact w_M_next_139 C n n h hW hS (lv_sub hl [0] rfl)
      · have h := ite_t c102 h
        exact w_M_next_105 C n h hW hS (lv_sub hl [0] rfl)
  · have h := ite_t c68 h
    refine lv_aload_n hx hb d_M_next_71 rfl (lv_at hl 0 rfl) ?_
    refine lv_iconst (v := 4) hx hb d_M_next_72 (by decide) ?_
    obtain ⟨S6, eS6, h⟩ := lt_some h
    refine hp_i C hW hS 200 6 (hW.fx 200 rfl) rfl q_M (by decide) rfl rfl rfl (lkF C kf_M_99) eS6 d_M_next_73 (fun H locs hW hS => ?_)
    have h := Option.some.inj h
    subst h
    exact he_v C hW hS d_M_next_76
set_option maxHeartbeats 4000000 in
set_option maxRecDepth 100000 in
theorem w_M_next_0B (C : CB p s m args c meth b_M_next "TwoLevelParserModel" 1 none D cA z ac) (n : Nat) (kc : HS → Option HS) {S' : HS} (hk : ∀ (S : HS) {H : Heap} {locs : List Loc} {ls : Array Slot}, kc S = some S' → HW D cA z ac E1 ad S H → va_S (zA z) s.heap H locs → lv_has ls 1 [(0, .ref (ad 200))] → GW p l e 2 s m args below meth c D cA z ac E1 ad none S' H locs (F0 m 0 ls [])) {S : HS} {H : Heap} {locs : List Loc} {ls : Array Slot} (h : f_M_next_b0B n kc S = some S') (hW : HW D cA z ac E1 ad S H) (hS : va_S (zA z) s.heap H locs) (hl : lv_has ls 1 [(0, .ref (ad 200))]) : GW p l e 2 s m args below meth c D cA z ac E1 ad none S' H locs (F0 m 0 ls []) := by
  obtain ⟨⟨hx, hb, hml, hown, hts⟩, hK, hr, hlo⟩ := id C
  unfold f_M_next_b0B at h
  refine lv_aload_n hx hb d_M_next_0 rfl (lv_at hl 0 rfl) ?_
  refine hg_i C hW 200 5 (hW.fx 200 rfl) rfl q_M (by decide) rfl (lkF C kf_M_93) d_M_next_1 ?_
  refine lv_aload_n hx hb d_M_next_4 rfl (lv_at hl 0 rfl) ?_
  refine hg_i C hW 200 2 (hW.fx 200 rfl) rfl q_M (by decide) rfl (lkF C kf_M_80) d_M_next_5 ?_
  refine lv_icmp_ge (tgt := 52) hx hb d_M_next_8 (by decide) (fun c8 => ?_) (fun c8 => ?_)
  · have h := ite_t c8 h
    exact w_M_next_52 C n h hW hS (lv_sub hl [0] rfl)
  · have h := ite_f c8 h
    refine lv_aload_n hx hb d_M_next_11 rfl (lv_at hl 0 rfl) ?_
    refine hg_r (j := 201) C hW 200 1 (hW.fx 200 rfl) rfl q_M (by decide) rfl (hW.fn (E := E1) (i := 200) (k := 1) rfl) (lkF C kf_M_7) d_M_next_12 ?_
    refine lv_aload_n hx hb d_M_next_15 rfl (lv_at hl 0 rfl) ?_
    refine hg_i C hW 200 5 (hW.fx 200 rfl) rfl q_M (by decide) rfl (lkF C kf_M_93) d_M_next_16 ?_
    obtain ⟨g1, h⟩ := gd_some h
    refine ha_b C hW 201 (hW.fx 201 rfl) rfl rfl g1 d_M_next_19 ?_
    refine lv_bipush (v := 32) hx hb d_M_next_20 (by decide) ?_
    refine lv_icmp_eq (tgt := 39) hx hb d_M_next_22 (by decide) (fun c22 => ?_) (fun c22 => ?_)
    · have h := ite_t c22 h
      exact w_M_next_39 C n kc hk h hW hS (lv_sub hl [0] rfl)
    · have h := ite_f c22 h
      refine lv_aload_n hx hb d_M_next_25 rfl (lv_at hl 0 rfl) ?_
      refine hg_r (j := 201) C hW 200 1 (hW.fx 200 rfl) rfl q_M (by decide) rfl (hW.fn (E := E1) (i := 200) (k := 1) rfl) (lkF C kf_M_7) d_M_next_26 ?_
      refine lv_aload_n hx hb d_M_next_29 rfl (lv_at hl 0 rfl) ?_
      refine hg_i C hW 200 5 (hW.fx 200 rfl) rfl q_M (by decide) rfl (lkF C kf_M_93) d_M_next_30 ?_
      obtain ⟨g2, h⟩ := gd_some h
      refine ha_b C hW 201 (hW.fx 201 rfl) rfl rfl g2 d_M_next_33 ?_
      refine lv_bipush (v := 10) hx hb d_M_next_34 (by decide) ?_
      refine lv_icmp_ne (tgt := 52) hx hb d_M_next_36 (by decide) (fun c36 => ?_) (fun c36 => ?_)
      · have h := ite_f c36 h
        exact w_M_next_52 C n h hW hS (lv_sub hl [0] rfl)
      · have h := ite_t c36 h
        exact w_M_next_39 C n kc hk h hW hS (lv_sub hl [0] rfl)
set_option maxHeartbeats 4000000 in
set_option maxRecDepth 100000 in
theorem w_M_next_0 (C : CB p s m args c meth b_M_next "TwoLevelParserModel" 1 none D cA z ac) (n : Nat) (k : Nat) {S' : HS} : ∀ {S : HS} {H : Heap} {locs : List Loc} {ls : Array Slot}, f_M_next_b0 n k S = some S' → HW D cA z ac E1 ad S H → va_S (zA z) s.heap H locs → lv_has ls 1 [(0, .ref (ad 200))] → GW p l e 2 s m args below meth c D cA z ac E1 ad none S' H locs (F0 m 0 ls []) := by
  induction k with
  | zero => intro S H locs ls h; cases h
  | succ k ih => intro S H locs ls h hW hS hl; exact w_M_next_0B C n (f_M_next_b0 n k) (fun S H locs ls h hW hS hl => ih h hW hS hl) h hW hS hl
set_option maxHeartbeats 4000000 in
set_option maxRecDepth 100000 in
theorem s_M_next (n : Nat) {S : HS} {S' : HS} (h : f_M_next n S = some S') : Met l y_M_next (.code y_M_next b_M_next 1 none :: lw_g) (rmD 2 0 0) (PcH D cA z ac E1 ad [.ref (ad 200)] S) (QN D cA z ac E1 ad none S') 0 0 (zA z) := by
  refine Met.ofH (own := "TwoLevelParserModel") (by decide) rfl (Nat.le_of_ble_eq_true rfl) ?_
  intro p e s m args below meth c H ls C hW hS hl
  have hl : lv_has ls 1 [(0, .ref (ad 200))] := hl
  obtain ⟨⟨hx, hb, hml, hown, hts⟩, hK, hr, hlo⟩ := id C
  unfold f_M_next at h
  exact w_M_next_0 C n n h hW hS (lv_sub hl [0] rfl)
end WK
def f_M_must_b44 (S : HS) : Option (Int32 × HS) :=
  (if (gF S 200 3) = 0 then
  some ((1 : Int32), S)
  else
  some ((0 : Int32), S))
def f_M_must_b24 (x1 : Int32) (S : HS) : Option (Int32 × HS) :=
  (if (gF S 200 3) = 0 then
  (if x1 = 0 then
  ob (f_M_wrong (2 : Int32) (gF S 200 7) S) fun S2 =>
  f_M_must_b44 S2
  else
  f_M_must_b44 S)
  else
  f_M_must_b44 S)
def f_M_must (x1 : Int32) (S : HS) : Option (Int32 × HS) :=
  (if (gF S 200 3) = 0 then
  (if (gF S 200 6) = (4 : Int32) then
  ob (f_M_wrong (3 : Int32) (gF S 200 2) S) fun S1 =>
  f_M_must_b24 x1 S1
  else
  f_M_must_b24 x1 S)
  else
  f_M_must_b24 x1 S)
section WK
variable {p : Program} {l : Launch} {e : Env} {s : State} {m : MethodId} {args : Array Value} {below : List Frame} {meth : Method} {c : Code} {D : va_G} {cA : Nat → ClassId} {z : Nat} {ac : Nat → Nat} {ad : Nat → Nat}
set_option maxHeartbeats 4000000 in
set_option maxRecDepth 100000 in
theorem w_M_must_44 (C : CB p s m args c meth b_M_must "TwoLevelParserModel" 2 (some .boolean) D cA z ac) {r : Int32} {S' : HS} {S : HS} {H : Heap} {locs : List Loc} {ls : Array Slot} (h : f_M_must_b44 S = some (r, S')) (hW : HW D cA z ac E1 ad S H) (hS : va_S (zA z) s.heap H locs) (hl : lv_has ls 2 [(0, .ref (ad 200))]) : GW p l e 1 s m args below meth c D cA z ac E1 ad (some (.int r)) S' H locs (F0 m 44 ls []) := by
  obtain ⟨⟨hx, hb, hml, hown, hts⟩, hK, hr, hlo⟩ := id C
  unfold f_M_must_b44 at h
  refine lv_aload_n hx hb d_M_must_44 rfl (lv_at hl 0 rfl) ?_
  refine hg_i C hW 200 3 (hW.fx 200 rfl) rfl q_M (by decide) rfl (lkF C kf_M_83) d_M_must_45 ?_
  refine lv_if_ne (tgt := 55) hx hb d_M_must_48 (by decide) (fun c48 => ?_) (fun c48 => ?_)
  · have h := ite_f c48 h
    refine lv_iconst (v := 0) hx hb d_M_must_55 (by decide) ?_
    obtain ⟨hr1, hr2⟩ := Prod.mk.inj (Option.some.inj h)
    subst hr1
    subst hr2
    exact he_z C hW hS (by decide) d_M_must_56
  · have h := ite_t c48 h
    refine lv_iconst (v := 1) hx hb d_M_must_51 (by decide) ?_
    refine lv_goto (tgt := 56) hx hb d_M_must_52 (by decide) ?_
    obtain ⟨hr1, hr2⟩ := Prod.mk.inj (Option.some.inj h)
    subst hr1
    subst hr2
    exact he_z C hW hS (by decide) d_M_must_56
set_option maxHeartbeats 4000000 in
set_option maxRecDepth 100000 in
theorem w_M_must_24 (C : CB p s m args c meth b_M_must "TwoLevelParserModel" 2 (some .boolean) D cA z ac) {r : Int32} {S' : HS} (x1 : Int32) {S : HS} {H : Heap} {locs : List Loc} {ls : Array Slot} (h : f_M_must_b24 x1 S = some (r, S')) (hW : HW D cA z ac E1 ad S H) (hS : va_S (zA z) s.heap H locs) (hl : lv_has ls 2 [(0, .ref (ad 200)), (1, .int (x1))]) : GW p l e 1 s m args below meth c D cA z ac E1 ad (some (.int r)) S' H locs (F0 m 24 ls []) := by
  obtain ⟨⟨hx, hb, hml, hown, hts⟩, hK, hr, hlo⟩ := id C
  unfold f_M_must_b24 at h
  refine lv_aload_n hx hb d_M_must_24 rfl (lv_at hl 0 rfl) ?_
  refine hg_i C hW 200 3 (hW.fx 200 rfl) rfl q_M (by decide) rfl (lkF C kf_M_83) d_M_must_25 ?_
  refine lv_if_ne (tgt := 44) hx hb d_M_must_28 (by decide) (fun c28 => ?_) (fun c28 => ?_)
  · have h := ite_f c28 h
    exact w_M_must_44 C h hW hS (lv_sub hl [0] rfl)
  · have h := ite_t c28 h
    refine lv_iload_n hx hb d_M_must_31 rfl (lv_at hl 1 rfl) ?_
    refine lv_if_ne (tgt := 44) hx hb d_M_must_32 (by decide) (fun c32 => ?_) (fun c32 => ?_)
    · have h := ite_f c32 h
      exact w_M_must_44 C h hW hS (lv_sub hl [0] rfl)
    · have h := ite_t c32 h
      refine lv_aload_n hx hb d_M_must_35 rfl (lv_at hl 0 rfl) ?_
      refine lv_iconst (v := 2) hx hb d_M_must_36 (by decide) ?_
      refine lv_aload_n hx hb d_M_must_37 rfl (lv_at hl 0 rfl) ?_
      refine hg_i C hW 200 7 (hW.fx 200 rfl) rfl q_M (by decide) rfl (lkF C kf_M_96) d_M_must_38 ?_
      obtain ⟨S2, eS2, h⟩ := ob_some h
      refine hx_V (i := 200) (As := [.int ((2 : Int32)), .int ((gF S 200 7))]) (rest := []) C hW hS (s_M_wrong (2 : Int32) (gF S 200 7) eS2) km_M_105 kv_M_wrong ke_M_wrong kn_M kw_M_wrong kd_M_wrong (hW.fx 200 rfl) rfl q_M rfl ⟨by decide, by decide⟩ ⟨Nat.zero_le _, Nat.zero_le _⟩ rfl hl.1 rfl (Nat.le_of_ble_eq_true rfl) d_M_must_41 (fun H locs hW hS => ?_)
      exact w_M_must_44 C h hW hS (lv_sub hl [0] rfl)
set_option maxHeartbeats 4000000 in
set_option maxRecDepth 100000 in
theorem s_M_must (x1 : Int32) {S : HS} {r : Int32} {S' : HS} (h : f_M_must x1 S = some (r, S')) : Met l y_M_must (.code y_M_must b_M_must 2 (some .boolean) :: lw_g) (rmD 1 0 0) (PcH D cA z ac E1 ad [.ref (ad 200), .int (x1)] S) (QN D cA z ac E1 ad (some (.int r)) S') 0 0 (zA z) := by
  refine Met.ofH (own := "TwoLevelParserModel") (by decide) rfl (Nat.le_of_ble_eq_true rfl) ?_
  intro p e s m args below meth c H ls C hW hS hl
  have hl : lv_has ls 2 [(0, .ref (ad 200)), (1, .int (x1))] := hl
  obtain ⟨⟨hx, hb, hml, hown, hts⟩, hK, hr, hlo⟩ := id C
  unfold f_M_must at h
  refine lv_aload_n hx hb d_M_must_0 rfl (lv_at hl 0 rfl) ?_
  refine hg_i C hW 200 3 (hW.fx 200 rfl) rfl q_M (by decide) rfl (lkF C kf_M_83) d_M_must_1 ?_
  refine lv_if_ne (tgt := 24) hx hb d_M_must_4 (by decide) (fun c4 => ?_) (fun c4 => ?_)
  · have h := ite_f c4 h
    exact w_M_must_24 C x1 h hW hS (lv_sub hl [0, 1] rfl)
  · have h := ite_t c4 h
    refine lv_aload_n hx hb d_M_must_7 rfl (lv_at hl 0 rfl) ?_
    refine hg_i C hW 200 6 (hW.fx 200 rfl) rfl q_M (by decide) rfl (lkF C kf_M_99) d_M_must_8 ?_
    refine lv_iconst (v := 4) hx hb d_M_must_11 (by decide) ?_
    refine lv_icmp_ne (tgt := 24) hx hb d_M_must_12 (by decide) (fun c12 => ?_) (fun c12 => ?_)
    · have h := ite_f c12 h
      exact w_M_must_24 C x1 h hW hS (lv_sub hl [0, 1] rfl)
    · have h := ite_t c12 h
      refine lv_aload_n hx hb d_M_must_15 rfl (lv_at hl 0 rfl) ?_
      refine lv_iconst (v := 3) hx hb d_M_must_16 (by decide) ?_
      refine lv_aload_n hx hb d_M_must_17 rfl (lv_at hl 0 rfl) ?_
      refine hg_i C hW 200 2 (hW.fx 200 rfl) rfl q_M (by decide) rfl (lkF C kf_M_80) d_M_must_18 ?_
      obtain ⟨S1, eS1, h⟩ := ob_some h
      refine hx_V (i := 200) (As := [.int ((3 : Int32)), .int ((gF S 200 2))]) (rest := []) C hW hS (s_M_wrong (3 : Int32) (gF S 200 2) eS1) km_M_105 kv_M_wrong ke_M_wrong kn_M kw_M_wrong kd_M_wrong (hW.fx 200 rfl) rfl q_M rfl ⟨by decide, by decide⟩ ⟨Nat.zero_le _, Nat.zero_le _⟩ rfl hl.1 rfl (Nat.le_of_ble_eq_true rfl) d_M_must_21 (fun H locs hW hS => ?_)
      exact w_M_must_24 C x1 h hW hS (lv_sub hl [0, 1] rfl)
end WK
def f_M_is_b66 (n : Nat) (kc : Nat → Int32 → Int32 → HS → Option Int32) (x1 : Nat) (x3 : Int32) (y0 : Int32) (S : HS) : Option Int32 :=
  lt y0 fun v8 =>
  lt (x3 + 1) fun v9 =>
  kc x1 v8 v9 S
def f_M_is_b65 (n : Nat) (kc : Nat → Int32 → Int32 → HS → Option Int32) (x1 : Nat) (x3 : Int32) (S : HS) : Option Int32 :=
  f_M_is_b66 n kc x1 x3 (0 : Int32) S
def f_M_is_b30B (n : Nat) (kc : Nat → Int32 → Int32 → HS → Option Int32) (x1 : Nat) (x2 : Int32) (x3 : Int32) (S : HS) : Option Int32 :=
  ob (f_Js_length x1) fun r4 =>
  (if r4 ≤ x3 then
  gd (x2 = 0 ∨ x2 = 1) <|
  some x2
  else
  (if x2 = 0 then
  f_M_is_b65 n kc x1 x3 S
  else
  gd (inR ((gF S 200 7) + x3) 8192) <|
  ob (f_Js_charAt x1 x3) fun r7 =>
  (if (gF S 201 ((gF S 200 7) + x3).toNatClampNeg) = r7 then
  f_M_is_b66 n kc x1 x3 (1 : Int32) S
  else
  f_M_is_b65 n kc x1 x3 S)))
def f_M_is_b30 (n : Nat) (k : Nat) : Nat → Int32 → Int32 → HS → Option Int32 := lpF (fun _ _ _ _ => none) (f_M_is_b30B n) k
def f_M_is (n : Nat) (x1 : Nat) (S : HS) : Option Int32 :=
  (if (gF S 200 6) = (2 : Int32) then
  ob (f_Js_length x1) fun r1 =>
  (if ((gF S 200 5) - (gF S 200 7)) = r1 then
  lt (1 : Int32) fun v2 =>
  lt (0 : Int32) fun v3 =>
  f_M_is_b30 n n x1 v2 v3 S
  else
  some (0 : Int32))
  else
  some (0 : Int32))
section WK
variable {p : Program} {l : Launch} {e : Env} {s : State} {m : MethodId} {args : Array Value} {below : List Frame} {meth : Method} {c : Code} {D : va_G} {cA : Nat → ClassId} {z : Nat} {ac : Nat → Nat} {ad : Nat → Nat}
set_option maxHeartbeats 4000000 in
set_option maxRecDepth 100000 in
theorem w_M_is_66 (C : CB p s m args c meth b_M_is "TwoLevelParserModel" 4 (some .boolean) D cA z ac) (n : Nat) (kc : Nat → Int32 → Int32 → HS → Option Int32) {r : Int32} (hk : ∀ (x1 : Nat) (x2 : Int32) (x3 : Int32) (S : HS) {H : Heap} {locs : List Loc} {ls : Array Slot}, kc x1 x2 x3 S = some r → HW D cA z ac E1 ad S H → va_S (zA z) s.heap H locs → lv_has ls 4 [(0, .ref (ad 200)), (1, .ref (ad x1)), (2, .int (x2)), (3, .int (x3))] → GW p l e 4 s m args below meth c D cA z ac E1 ad (some (.int r)) S H locs (F0 m 30 ls [])) (x1 : Nat) (x3 : Int32) (y0 : Int32) {S : HS} {H : Heap} {locs : List Loc} {ls : Array Slot} (h : f_M_is_b66 n kc x1 x3 y0 S = some r) (hW : HW D cA z ac E1 ad S H) (hS : va_S (zA z) s.heap H locs) (hl : lv_has ls 4 [(0, .ref (ad 200)), (1, .ref (ad x1)), (3, .int (x3))]) : GW p l e 4 s m args below meth c D cA z ac E1 ad (some (.int r)) S H locs (F0 m 66 ls [.int (y0)]) := by
  obtain ⟨⟨hx, hb, hml, hown, hts⟩, hK, hr, hlo⟩ := id C
  unfold f_M_is_b66 at h
  obtain ⟨v8, ev8, h⟩ := lt_some h
  refine lt_i_n (lv' := [(2, .int (v8)), (0, .ref (ad 200)), (1, .ref (ad x1)), (3, .int (x3))]) C d_M_is_66 rfl hl (by decide) ev8 rfl (fun ls hl => ?_)
  obtain ⟨v9, ev9, h⟩ := lt_some h
  refine lv_iinc (v := v9) (lv' := [(3, .int (v9)), (2, .int (v8)), (0, .ref (ad 200)), (1, .ref (ad x1))]) hx hb d_M_is_67 hl (k := 3) rfl (by rw [ev9]; rfl) (by decide) rfl (fun ls hl => ?_)
  refine lv_goto (tgt := 30) hx hb d_M_is_70 (by decide) ?_
  exact hk _ _ _ _ h hW hS (lv_sub hl [2, 3, 1, 0] rfl)
set_option maxHeartbeats 4000000 in
set_option maxRecDepth 100000 in
theorem w_M_is_65 (C : CB p s m args c meth b_M_is "TwoLevelParserModel" 4 (some .boolean) D cA z ac) (n : Nat) (kc : Nat → Int32 → Int32 → HS → Option Int32) {r : Int32} (hk : ∀ (x1 : Nat) (x2 : Int32) (x3 : Int32) (S : HS) {H : Heap} {locs : List Loc} {ls : Array Slot}, kc x1 x2 x3 S = some r → HW D cA z ac E1 ad S H → va_S (zA z) s.heap H locs → lv_has ls 4 [(0, .ref (ad 200)), (1, .ref (ad x1)), (2, .int (x2)), (3, .int (x3))] → GW p l e 4 s m args below meth c D cA z ac E1 ad (some (.int r)) S H locs (F0 m 30 ls [])) (x1 : Nat) (x3 : Int32) {S : HS} {H : Heap} {locs : List Loc} {ls : Array Slot} (h : f_M_is_b65 n kc x1 x3 S = some r) (hW : HW D cA z ac E1 ad S H) (hS : va_S (zA z) s.heap H locs) (hl : lv_has ls 4 [(0, .ref (ad 200)), (1, .ref (ad x1)), (3, .int (x3))]) : GW p l e 4 s m args below meth c D cA z ac E1 ad (some (.int r)) S H locs (F0 m 65 ls []) := by
  obtain ⟨⟨hx, hb, hml, hown, hts⟩, hK, hr, hlo⟩ := id C
  unfold f_M_is_b65 at h
  refine lv_iconst (v := 0) hx hb d_M_is_65 (by decide) ?_
  exact w_M_is_66 C n kc hk x1 x3 (0 : Int32) h hW hS (lv_sub hl [0, 1, 2] rfl)
set_option maxHeartbeats 4000000 in
set_option maxRecDepth 100000 in
theorem w_M_is_30B (C : CB p s m args c meth b_M_is "TwoLevelParserModel" 4 (some .boolean) D cA z ac) (n : Nat) (kc : Nat → Int32 → Int32 → HS → Option Int32) {r : Int32} (hk : ∀ (x1 : Nat) (x2 : Int32) (x3 : Int32) (S : HS) {H : Heap} {locs : List Loc} {ls : Array Slot}, kc x1 x2 x3 S = some r → HW D cA z ac E1 ad S H → va_S (zA z) s.heap H locs → lv_has ls 4 [(0, .ref (ad 200)), (1, .ref (ad x1)), (2, .int (x2)), (3, .int (x3))] → GW p l e 4 s m args below meth c D cA z ac E1 ad (some (.int r)) S H locs (F0 m 30 ls [])) (x1 : Nat) (x2 : Int32) (x3 : Int32) {S : HS} {H : Heap} {locs : List Loc} {ls : Array Slot} (h : f_M_is_b30B n kc x1 x2 x3 S = some r) (hW : HW D cA z ac E1 ad S H) (hS : va_S (zA z) s.heap H locs) (hl : lv_has ls 4 [(0, .ref (ad 200)), (1, .ref (ad x1)), (2, .int (x2)), (3, .int (x3))]) : GW p l e 4 s m args below meth c D cA z ac E1 ad (some (.int r)) S H locs (F0 m 30 ls []) := by
  obtain ⟨⟨hx, hb, hml, hown, hts⟩, hK, hr, hlo⟩ := id C
  unfold f_M_is_b30B at h
  refine lv_iload_n hx hb d_M_is_30 rfl (lv_at hl 3 rfl) ?_
  refine lv_aload_n hx hb d_M_is_31 rfl (lv_at hl 1 rfl) ?_
  obtain ⟨r4, er4, h⟩ := ob_some h
  refine hx_len C hW hS er4 km_M_132 ⟨by decide, by decide⟩ ⟨Nat.zero_le _, Nat.zero_le _⟩ hl.1 (Nat.le_of_ble_eq_true rfl) d_M_is_32 (fun H locs hW hS => ?_)
  refine lv_icmp_ge (tgt := 73) hx hb d_M_is_35 (by decide) (fun c35 => ?_) (fun c35 => ?_)
  · have h := ite_t c35 h
    refine lv_iload_n hx hb d_M_is_73 rfl (lv_at hl 2 rfl) ?_
    obtain ⟨g5, h⟩ := gd_some h
    have h := Option.some.inj h
    subst h
    exact he_z C hW hS g5 d_M_is_74
  · have h := ite_f c35 h
    refine lv_iload_n hx hb d_M_is_38 rfl (lv_at hl 2 rfl) ?_
    refine lv_if_eq (tgt := 65) hx hb d_M_is_39 (by decide) (fun c39 => ?_) (fun c39 => ?_)
    · have h := ite_t c39 h
      exact w_M_is_65 C n kc hk x1 x3 h hW hS (lv_sub hl [0, 1, 3] rfl)
    · have h := ite_f c39 h
      refine lv_aload_n hx hb d_M_is_42 rfl (lv_at hl 0 rfl) ?_
      refine hg_r (j := 201) C hW 200 1 (hW.fx 200 rfl) rfl q_M (by decide) rfl (hW.fn (E := E1) (i := 200) (k := 1) rfl) (lkF C kf_M_7) d_M_is_43 ?_
      refine lv_aload_n hx hb d_M_is_46 rfl (lv_at hl 0 rfl) ?_
      refine hg_i C hW 200 7 (hW.fx 200 rfl) rfl q_M (by decide) rfl (lkF C kf_M_96) d_M_is_47 ?_
      refine lv_iload_n hx hb d_M_is_50 rfl (lv_at hl 3 rfl) ?_
      refine lv_iadd hx hb d_M_is_51 ?_
      obtain ⟨g6, h⟩ := gd_some h
      refine ha_b C hW 201 (hW.fx 201 rfl) rfl rfl g6 d_M_is_52 ?_
      refine lv_aload_n hx hb d_M_is_53 rfl (lv_at hl 1 rfl) ?_
      refine lv_iload_n hx hb d_M_is_54 rfl (lv_at hl 3 rfl) ?_
      obtain ⟨r7, er7, h⟩ := ob_some h
      refine hx_chr C hW hS er7 km_M_138 ⟨by decide, by decide⟩ ⟨Nat.zero_le _, Nat.zero_le _⟩ hl.1 (Nat.le_of_ble_eq_true rfl) d_M_is_55 (fun H locs hW hS => ?_)
      refine lv_icmp_ne (tgt := 65) hx hb d_M_is_58 (by decide) (fun c58 => ?_) (fun c58 => ?_)
      · have h := ite_f c58 h
        exact w_M_is_65 C n kc hk x1 x3 h hW hS (lv_sub hl [0, 1, 3] rfl)
      · have h := ite_t c58 h
        refine lv_iconst (v := 1) hx hb d_M_is_61 (by decide) ?_
        refine lv_goto (tgt := 66) hx hb d_M_is_62 (by decide) ?_
        exact w_M_is_66 C n kc hk x1 x3 (1 : Int32) h hW hS (lv_sub hl [0, 1, 3] rfl)
set_option maxHeartbeats 4000000 in
set_option maxRecDepth 100000 in
theorem w_M_is_30 (C : CB p s m args c meth b_M_is "TwoLevelParserModel" 4 (some .boolean) D cA z ac) (n : Nat) (k : Nat) {r : Int32} : ∀ (x1 : Nat) (x2 : Int32) (x3 : Int32) {S : HS} {H : Heap} {locs : List Loc} {ls : Array Slot}, f_M_is_b30 n k x1 x2 x3 S = some r → HW D cA z ac E1 ad S H → va_S (zA z) s.heap H locs → lv_has ls 4 [(0, .ref (ad 200)), (1, .ref (ad x1)), (2, .int (x2)), (3, .int (x3))] → GW p l e 4 s m args below meth c D cA z ac E1 ad (some (.int r)) S H locs (F0 m 30 ls []) := by
  induction k with
  | zero => intro x1 x2 x3 S H locs ls h; cases h
  | succ k ih => intro x1 x2 x3 S H locs ls h hW hS hl; exact w_M_is_30B C n (f_M_is_b30 n k) (fun x1 x2 x3 S H locs ls h hW hS hl => ih x1 x2 x3 h hW hS hl) x1 x2 x3 h hW hS hl
set_option maxHeartbeats 4000000 in
set_option maxRecDepth 100000 in
theorem s_M_is (n : Nat) (x1 : Nat) {S : HS} {r : Int32} (h : f_M_is n x1 S = some r) : Met l y_M_is (.code y_M_is b_M_is 4 (some .boolean) :: lw_g) (rmD 4 0 0) (PcH D cA z ac E1 ad [.ref (ad 200), .ref (ad x1)] S) (QN D cA z ac E1 ad (some (.int r)) S) 0 0 (zA z) := by
  refine Met.ofH (own := "TwoLevelParserModel") (by decide) rfl (Nat.le_of_ble_eq_true rfl) ?_
  intro p e s m args below meth c H ls C hW hS hl
  have hl : lv_has ls 4 [(0, .ref (ad 200)), (1, .ref (ad x1))] := hl
  obtain ⟨⟨hx, hb, hml, hown, hts⟩, hK, hr, hlo⟩ := id C
  unfold f_M_is at h
  refine lv_aload_n hx hb d_M_is_0 rfl (lv_at hl 0 rfl) ?_
  refine hg_i C hW 200 6 (hW.fx 200 rfl) rfl q_M (by decide) rfl (lkF C kf_M_99) d_M_is_1 ?_
  refine lv_iconst (v := 2) hx hb d_M_is_4 (by decide) ?_
  refine lv_icmp_ne (tgt := 24) hx hb d_M_is_5 (by decide) (fun c5 => ?_) (fun c5 => ?_)
  · have h := ite_f c5 h
    refine lv_iconst (v := 0) hx hb d_M_is_24 (by decide) ?_
    have h := Option.some.inj h
    subst h
    exact he_z C hW hS (by decide) d_M_is_25
  · have h := ite_t c5 h
    refine lv_aload_n hx hb d_M_is_8 rfl (lv_at hl 0 rfl) ?_
    refine hg_i C hW 200 5 (hW.fx 200 rfl) rfl q_M (by decide) rfl (lkF C kf_M_93) d_M_is_9 ?_
    refine lv_aload_n hx hb d_M_is_12 rfl (lv_at hl 0 rfl) ?_
    refine hg_i C hW 200 7 (hW.fx 200 rfl) rfl q_M (by decide) rfl (lkF C kf_M_96) d_M_is_13 ?_
    refine lv_isub hx hb d_M_is_16 ?_
    refine lv_aload_n hx hb d_M_is_17 rfl (lv_at hl 1 rfl) ?_
    obtain ⟨r1, er1, h⟩ := ob_some h
    refine hx_len C hW hS er1 km_M_132 ⟨by decide, by decide⟩ ⟨Nat.zero_le _, Nat.zero_le _⟩ hl.1 (Nat.le_of_ble_eq_true rfl) d_M_is_18 (fun H locs hW hS => ?_)
    refine lv_icmp_eq (tgt := 26) hx hb d_M_is_21 (by decide) (fun c21 => ?_) (fun c21 => ?_)
    · have h := ite_t c21 h
      refine lv_iconst (v := 1) hx hb d_M_is_26 (by decide) ?_
      obtain ⟨v2, ev2, h⟩ := lt_some h
      refine lt_i_n (lv' := [(2, .int (v2)), (0, .ref (ad 200)), (1, .ref (ad x1))]) C d_M_is_27 rfl hl (by decide) ev2 rfl (fun ls hl => ?_)
      refine lv_iconst (v := 0) hx hb d_M_is_28 (by decide) ?_
      obtain ⟨v3, ev3, h⟩ := lt_some h
      refine lt_i_n (lv' := [(3, .int (v3)), (2, .int (v2)), (0, .ref (ad 200)), (1, .ref (ad x1))]) C d_M_is_29 rfl hl (by decide) ev3 rfl (fun ls hl => ?_)
      exact w_M_is_30 C n n x1 v2 v3 h hW hS (lv_sub hl [2, 3, 1, 0] rfl)
    · have h := ite_f c21 h
      refine lv_iconst (v := 0) hx hb d_M_is_24 (by decide) ?_
      have h := Option.some.inj h
      subst h
      exact he_z C hW hS (by decide) d_M_is_25
end WK
def f_M_type (n : Nat) (S : HS) : Option Int32 :=
  ob (f_M_is n 337 S) fun r1 =>
  (if r1 = 0 then
  ob (f_M_is n 338 S) fun r2 =>
  (if r2 = 0 then
  ob (f_M_is n 339 S) fun r3 =>
  (if r3 = 0 then
  ob (f_M_is n 340 S) fun r4 =>
  (if r4 = 0 then
  some (-1 : Int32)
  else
  some (3 : Int32))
  else
  some (2 : Int32))
  else
  some (1 : Int32))
  else
  some (0 : Int32))
section WK
variable {p : Program} {l : Launch} {e : Env} {s : State} {m : MethodId} {args : Array Value} {below : List Frame} {meth : Method} {c : Code} {D : va_G} {cA : Nat → ClassId} {z : Nat} {ac : Nat → Nat} {ad : Nat → Nat}
set_option maxHeartbeats 4000000 in
set_option maxRecDepth 100000 in
theorem s_M_type (n : Nat) {S : HS} {r : Int32} (h : f_M_type n S = some r) : Met l y_M_type (.code y_M_type b_M_type 1 (some .int) :: lw_g) (rmD 5 0 0) (PcH D cA z ac E1 ad [.ref (ad 200)] S) (QN D cA z ac E1 ad (some (.int r)) S) 0 0 (zA z) := by
  refine Met.ofH (own := "TwoLevelParserModel") (by decide) rfl (Nat.le_of_ble_eq_true rfl) ?_
  intro p e s m args below meth c H ls C hW hS hl
  have hl : lv_has ls 1 [(0, .ref (ad 200))] := hl
  obtain ⟨⟨hx, hb, hml, hown, hts⟩, hK, hr, hlo⟩ := id C
  unfold f_M_type at h
  refine lv_aload_n hx hb d_M_type_0 rfl (lv_at hl 0 rfl) ?_
  refine hc_s (i := 37) C hW rfl (by decide) rfl rfl d_M_type_1 ?_
  obtain ⟨r1, er1, h⟩ := ob_some h
  refine hx_V (i := 200) (As := [.ref (ad 337)]) (rest := []) C hW hS (s_M_is n 337 er1) km_M_144 kv_M_is ke_M_is kn_M kw_M_is kd_M_is (hW.fx 200 rfl) rfl q_M rfl ⟨by decide, by decide⟩ ⟨Nat.zero_le _, Nat.zero_le _⟩ rfl hl.1 rfl (Nat.le_of_ble_eq_true rfl) d_M_type_3 (fun H locs hW hS => ?_)
  refine lv_if_eq (tgt := 13) hx hb d_M_type_6 (by decide) (fun c6 => ?_) (fun c6 => ?_)
  · have h := ite_t c6 h
    refine lv_aload_n hx hb d_M_type_13 rfl (lv_at hl 0 rfl) ?_
    refine hc_s (i := 38) C hW rfl (by decide) rfl rfl d_M_type_14 ?_
    obtain ⟨r2, er2, h⟩ := ob_some h
    refine hx_V (i := 200) (As := [.ref (ad 338)]) (rest := []) C hW hS (s_M_is n 338 er2) km_M_144 kv_M_is ke_M_is kn_M kw_M_is kd_M_is (hW.fx 200 rfl) rfl q_M rfl ⟨by decide, by decide⟩ ⟨Nat.zero_le _, Nat.zero_le _⟩ rfl hl.1 rfl (Nat.le_of_ble_eq_true rfl) d_M_type_16 (fun H locs hW hS => ?_)
    refine lv_if_eq (tgt := 26) hx hb d_M_type_19 (by decide) (fun c19 => ?_) (fun c19 => ?_)
    · have h := ite_t c19 h
      refine lv_aload_n hx hb d_M_type_26 rfl (lv_at hl 0 rfl) ?_
      refine hc_s (i := 39) C hW rfl (by decide) rfl rfl d_M_type_27 ?_
      obtain ⟨r3, er3, h⟩ := ob_some h
      refine hx_V (i := 200) (As := [.ref (ad 339)]) (rest := []) C hW hS (s_M_is n 339 er3) km_M_144 kv_M_is ke_M_is kn_M kw_M_is kd_M_is (hW.fx 200 rfl) rfl q_M rfl ⟨by decide, by decide⟩ ⟨Nat.zero_le _, Nat.zero_le _⟩ rfl hl.1 rfl (Nat.le_of_ble_eq_true rfl) d_M_type_29 (fun H locs hW hS => ?_)
      refine lv_if_eq (tgt := 39) hx hb d_M_type_32 (by decide) (fun c32 => ?_) (fun c32 => ?_)
      · have h := ite_t c32 h
        refine lv_aload_n hx hb d_M_type_39 rfl (lv_at hl 0 rfl) ?_
        refine hc_s (i := 40) C hW rfl (by decide) rfl rfl d_M_type_40 ?_
        obtain ⟨r4, er4, h⟩ := ob_some h
        refine hx_V (i := 200) (As := [.ref (ad 340)]) (rest := []) C hW hS (s_M_is n 340 er4) km_M_144 kv_M_is ke_M_is kn_M kw_M_is kd_M_is (hW.fx 200 rfl) rfl q_M rfl ⟨by decide, by decide⟩ ⟨Nat.zero_le _, Nat.zero_le _⟩ rfl hl.1 rfl (Nat.le_of_ble_eq_true rfl) d_M_type_42 (fun H locs hW hS => ?_)
        refine lv_if_eq (tgt := 52) hx hb d_M_type_45 (by decide) (fun c45 => ?_) (fun c45 => ?_)
        · have h := ite_t c45 h
          refine lv_iconst (v := -1) hx hb d_M_type_52 (by decide) ?_
          have h := Option.some.inj h
          subst h
          exact he_i C hW hS d_M_type_53
        · have h := ite_f c45 h
          refine lv_iconst (v := 3) hx hb d_M_type_48 (by decide) ?_
          refine lv_goto (tgt := 53) hx hb d_M_type_49 (by decide) ?_
          have h := Option.some.inj h
          subst h
          exact he_i C hW hS d_M_type_53
      · have h := ite_f c32 h
        refine lv_iconst (v := 2) hx hb d_M_type_35 (by decide) ?_
        refine lv_goto (tgt := 53) hx hb d_M_type_36 (by decide) ?_
        have h := Option.some.inj h
        subst h
        exact he_i C hW hS d_M_type_53
    · have h := ite_f c19 h
      refine lv_iconst (v := 1) hx hb d_M_type_22 (by decide) ?_
      refine lv_goto (tgt := 53) hx hb d_M_type_23 (by decide) ?_
      have h := Option.some.inj h
      subst h
      exact he_i C hW hS d_M_type_53
  · have h := ite_f c6 h
    refine lv_iconst (v := 0) hx hb d_M_type_9 (by decide) ?_
    refine lv_goto (tgt := 53) hx hb d_M_type_10 (by decide) ?_
    have h := Option.some.inj h
    subst h
    exact he_i C hW hS d_M_type_53
end WK
def f_M_operation (n : Nat) (S : HS) : Option Int32 :=
  ob (f_M_is n 341 S) fun r1 =>
  (if r1 = 0 then
  ob (f_M_is n 342 S) fun r2 =>
  (if r2 = 0 then
  ob (f_M_is n 343 S) fun r3 =>
  (if r3 = 0 then
  ob (f_M_is n 344 S) fun r4 =>
  (if r4 = 0 then
  ob (f_M_is n 345 S) fun r5 =>
  (if r5 = 0 then
  ob (f_M_is n 346 S) fun r6 =>
  (if r6 = 0 then
  ob (f_M_is n 347 S) fun r7 =>
  (if r7 = 0 then
  some (-1 : Int32)
  else
  some (9 : Int32))
  else
  some (8 : Int32))
  else
  some (7 : Int32))
  else
  some (6 : Int32))
  else
  some (5 : Int32))
  else
  some (4 : Int32))
  else
  some (3 : Int32))
section WK
variable {p : Program} {l : Launch} {e : Env} {s : State} {m : MethodId} {args : Array Value} {below : List Frame} {meth : Method} {c : Code} {D : va_G} {cA : Nat → ClassId} {z : Nat} {ac : Nat → Nat} {ad : Nat → Nat}
set_option maxHeartbeats 4000000 in
set_option maxRecDepth 100000 in
theorem s_M_operation (n : Nat) {S : HS} {r : Int32} (h : f_M_operation n S = some r) : Met l y_M_operation (.code y_M_operation b_M_operation 1 (some .int) :: lw_g) (rmD 5 0 0) (PcH D cA z ac E1 ad [.ref (ad 200)] S) (QN D cA z ac E1 ad (some (.int r)) S) 0 0 (zA z) := by
  refine Met.ofH (own := "TwoLevelParserModel") (by decide) rfl (Nat.le_of_ble_eq_true rfl) ?_
  intro p e s m args below meth c H ls C hW hS hl
  have hl : lv_has ls 1 [(0, .ref (ad 200))] := hl
  obtain ⟨⟨hx, hb, hml, hown, hts⟩, hK, hr, hlo⟩ := id C
  unfold f_M_operation at h
  refine lv_aload_n hx hb d_M_operation_0 rfl (lv_at hl 0 rfl) ?_
  refine hc_s (i := 41) C hW rfl (by decide) rfl rfl d_M_operation_1 ?_
  obtain ⟨r1, er1, h⟩ := ob_some h
  refine hx_V (i := 200) (As := [.ref (ad 341)]) (rest := []) C hW hS (s_M_is n 341 er1) km_M_144 kv_M_is ke_M_is kn_M kw_M_is kd_M_is (hW.fx 200 rfl) rfl q_M rfl ⟨by decide, by decide⟩ ⟨Nat.zero_le _, Nat.zero_le _⟩ rfl hl.1 rfl (Nat.le_of_ble_eq_true rfl) d_M_operation_3 (fun H locs hW hS => ?_)
  refine lv_if_eq (tgt := 13) hx hb d_M_operation_6 (by decide) (fun c6 => ?_) (fun c6 => ?_)
  · have h := ite_t c6 h
    refine lv_aload_n hx hb d_M_operation_13 rfl (lv_at hl 0 rfl) ?_
    refine hc_s (i := 42) C hW rfl (by decide) rfl rfl d_M_operation_14 ?_
    obtain ⟨r2, er2, h⟩ := ob_some h
    refine hx_V (i := 200) (As := [.ref (ad 342)]) (rest := []) C hW hS (s_M_is n 342 er2) km_M_144 kv_M_is ke_M_is kn_M kw_M_is kd_M_is (hW.fx 200 rfl) rfl q_M rfl ⟨by decide, by decide⟩ ⟨Nat.zero_le _, Nat.zero_le _⟩ rfl hl.1 rfl (Nat.le_of_ble_eq_true rfl) d_M_operation_16 (fun H locs hW hS => ?_)
    refine lv_if_eq (tgt := 26) hx hb d_M_operation_19 (by decide) (fun c19 => ?_) (fun c19 => ?_)
    · have h := ite_t c19 h
      refine lv_aload_n hx hb d_M_operation_26 rfl (lv_at hl 0 rfl) ?_
      refine hc_s (i := 43) C hW rfl (by decide) rfl rfl d_M_operation_27 ?_
      obtain ⟨r3, er3, h⟩ := ob_some h
      refine hx_V (i := 200) (As := [.ref (ad 343)]) (rest := []) C hW hS (s_M_is n 343 er3) km_M_144 kv_M_is ke_M_is kn_M kw_M_is kd_M_is (hW.fx 200 rfl) rfl q_M rfl ⟨by decide, by decide⟩ ⟨Nat.zero_le _, Nat.zero_le _⟩ rfl hl.1 rfl (Nat.le_of_ble_eq_true rfl) d_M_operation_29 (fun H locs hW hS => ?_)
      refine lv_if_eq (tgt := 39) hx hb d_M_operation_32 (by decide) (fun c32 => ?_) (fun c32 => ?_)
      · have h := ite_t c32 h
        refine lv_aload_n hx hb d_M_operation_39 rfl (lv_at hl 0 rfl) ?_
        refine hc_s (i := 44) C hW rfl (by decide) rfl rfl d_M_operation_40 ?_
        obtain ⟨r4, er4, h⟩ := ob_some h
        refine hx_V (i := 200) (As := [.ref (ad 344)]) (rest := []) C hW hS (s_M_is n 344 er4) km_M_144 kv_M_is ke_M_is kn_M kw_M_is kd_M_is (hW.fx 200 rfl) rfl q_M rfl ⟨by decide, by decide⟩ ⟨Nat.zero_le _, Nat.zero_le _⟩ rfl hl.1 rfl (Nat.le_of_ble_eq_true rfl) d_M_operation_42 (fun H locs hW hS => ?_)
        refine lv_if_eq (tgt := 53) hx hb d_M_operation_45 (by decide) (fun c45 => ?_) (fun c45 => ?_)
        · have h := ite_t c45 h
          refine lv_aload_n hx hb d_M_operation_53 rfl (lv_at hl 0 rfl) ?_
          refine hc_s (i := 45) C hW rfl (by decide) rfl rfl d_M_operation_54 ?_
          obtain ⟨r5, er5, h⟩ := ob_some h
          refine hx_V (i := 200) (As := [.ref (ad 345)]) (rest := []) C hW hS (s_M_is n 345 er5) km_M_144 kv_M_is ke_M_is kn_M kw_M_is kd_M_is (hW.fx 200 rfl) rfl q_M rfl ⟨by decide, by decide⟩ ⟨Nat.zero_le _, Nat.zero_le _⟩ rfl hl.1 rfl (Nat.le_of_ble_eq_true rfl) d_M_operation_56 (fun H locs hW hS => ?_)
          refine lv_if_eq (tgt := 67) hx hb d_M_operation_59 (by decide) (fun c59 => ?_) (fun c59 => ?_)
          · have h := ite_t c59 h
            refine lv_aload_n hx hb d_M_operation_67 rfl (lv_at hl 0 rfl) ?_
            refine hc_s (i := 46) C hW rfl (by decide) rfl rfl d_M_operation_68 ?_
            obtain ⟨r6, er6, h⟩ := ob_some h
            refine hx_V (i := 200) (As := [.ref (ad 346)]) (rest := []) C hW hS (s_M_is n 346 er6) km_M_144 kv_M_is ke_M_is kn_M kw_M_is kd_M_is (hW.fx 200 rfl) rfl q_M rfl ⟨by decide, by decide⟩ ⟨Nat.zero_le _, Nat.zero_le _⟩ rfl hl.1 rfl (Nat.le_of_ble_eq_true rfl) d_M_operation_70 (fun H locs hW hS => ?_)
            refine lv_if_eq (tgt := 81) hx hb d_M_operation_73 (by decide) (fun c73 => ?_) (fun c73 => ?_)
            · have h := ite_t c73 h
              refine lv_aload_n hx hb d_M_operation_81 rfl (lv_at hl 0 rfl) ?_
              refine hc_s (i := 47) C hW rfl (by decide) rfl rfl d_M_operation_82 ?_
              obtain ⟨r7, er7, h⟩ := ob_some h
              refine hx_V (i := 200) (As := [.ref (ad 347)]) (rest := []) C hW hS (s_M_is n 347 er7) km_M_144 kv_M_is ke_M_is kn_M kw_M_is kd_M_is (hW.fx 200 rfl) rfl q_M rfl ⟨by decide, by decide⟩ ⟨Nat.zero_le _, Nat.zero_le _⟩ rfl hl.1 rfl (Nat.le_of_ble_eq_true rfl) d_M_operation_84 (fun H locs hW hS => ?_)
              refine lv_if_eq (tgt := 95) hx hb d_M_operation_87 (by decide) (fun c87 => ?_) (fun c87 => ?_)
              · have h := ite_t c87 h
                refine lv_iconst (v := -1) hx hb d_M_operation_95 (by decide) ?_
                have h := Option.some.inj h
                subst h
                exact he_i C hW hS d_M_operation_96
              · have h := ite_f c87 h
                refine lv_bipush (v := 9) hx hb d_M_operation_90 (by decide) ?_
                refine lv_goto (tgt := 96) hx hb d_M_operation_92 (by decide) ?_
                have h := Option.some.inj h
                subst h
                exact he_i C hW hS d_M_operation_96
            · have h := ite_f c73 h
              refine lv_bipush (v := 8) hx hb d_M_operation_76 (by decide) ?_
              refine lv_goto (tgt := 96) hx hb d_M_operation_78 (by decide) ?_
              have h := Option.some.inj h
              subst h
              exact he_i C hW hS d_M_operation_96
          · have h := ite_f c59 h
            refine lv_bipush (v := 7) hx hb d_M_operation_62 (by decide) ?_
            refine lv_goto (tgt := 96) hx hb d_M_operation_64 (by decide) ?_
            have h := Option.some.inj h
            subst h
            exact he_i C hW hS d_M_operation_96
        · have h := ite_f c45 h
          refine lv_bipush (v := 6) hx hb d_M_operation_48 (by decide) ?_
          refine lv_goto (tgt := 96) hx hb d_M_operation_50 (by decide) ?_
          have h := Option.some.inj h
          subst h
          exact he_i C hW hS d_M_operation_96
      · have h := ite_f c32 h
        refine lv_iconst (v := 5) hx hb d_M_operation_35 (by decide) ?_
        refine lv_goto (tgt := 96) hx hb d_M_operation_36 (by decide) ?_
        have h := Option.some.inj h
        subst h
        exact he_i C hW hS d_M_operation_96
    · have h := ite_f c19 h
      refine lv_iconst (v := 4) hx hb d_M_operation_22 (by decide) ?_
      refine lv_goto (tgt := 96) hx hb d_M_operation_23 (by decide) ?_
      have h := Option.some.inj h
      subst h
      exact he_i C hW hS d_M_operation_96
  · have h := ite_f c6 h
    refine lv_iconst (v := 3) hx hb d_M_operation_9 (by decide) ?_
    refine lv_goto (tgt := 96) hx hb d_M_operation_10 (by decide) ?_
    have h := Option.some.inj h
    subst h
    exact he_i C hW hS d_M_operation_96
end WK
def f_M_stableKind (n : Nat) (S : HS) : Option Int32 :=
  ob (f_M_operation n S) fun r1 =>
  (if r1 < 0 then
  ob (f_M_is n 348 S) fun r2 =>
  (if r2 = 0 then
  ob (f_M_is n 349 S) fun r3 =>
  (if r3 = 0 then
  ob (f_M_is n 350 S) fun r4 =>
  (if r4 = 0 then
  ob (f_M_is n 351 S) fun r5 =>
  (if r5 = 0 then
  ob (f_M_is n 352 S) fun r6 =>
  (if r6 = 0 then
  ob (f_M_is n 353 S) fun r7 =>
  (if r7 = 0 then
  ob (f_M_is n 339 S) fun r8 =>
  (if r8 = 0 then
  ob (f_M_is n 340 S) fun r9 =>
  (if r9 = 0 then
  some (-1 : Int32)
  else
  some (17 : Int32))
  else
  some (16 : Int32))
  else
  some (15 : Int32))
  else
  some (14 : Int32))
  else
  some (13 : Int32))
  else
  some (12 : Int32))
  else
  some (11 : Int32))
  else
  some (10 : Int32))
  else
  ob (f_M_operation n S) fun r10 =>
  some r10)
section WK
variable {p : Program} {l : Launch} {e : Env} {s : State} {m : MethodId} {args : Array Value} {below : List Frame} {meth : Method} {c : Code} {D : va_G} {cA : Nat → ClassId} {z : Nat} {ac : Nat → Nat} {ad : Nat → Nat}
set_option maxHeartbeats 4000000 in
set_option maxRecDepth 100000 in
theorem s_M_stableKind (n : Nat) {S : HS} {r : Int32} (h : f_M_stableKind n S = some r) : Met l y_M_stableKind (.code y_M_stableKind b_M_stableKind 1 (some .int) :: lw_g) (rmD 6 0 0) (PcH D cA z ac E1 ad [.ref (ad 200)] S) (QN D cA z ac E1 ad (some (.int r)) S) 0 0 (zA z) := by
  refine Met.ofH (own := "TwoLevelParserModel") (by decide) rfl (Nat.le_of_ble_eq_true rfl) ?_
  intro p e s m args below meth c H ls C hW hS hl
  have hl : lv_has ls 1 [(0, .ref (ad 200))] := hl
  obtain ⟨⟨hx, hb, hml, hown, hts⟩, hK, hr, hlo⟩ := id C
  unfold f_M_stableKind at h
  refine lv_aload_n hx hb d_M_stableKind_0 rfl (lv_at hl 0 rfl) ?_
  obtain ⟨r1, er1, h⟩ := ob_some h
  refine hx_V (i := 200) (As := []) (rest := []) C hW hS (s_M_operation n er1) km_M_168 kv_M_operation ke_M_operation kn_M kw_M_operation kd_M_operation (hW.fx 200 rfl) rfl q_M rfl ⟨by decide, by decide⟩ ⟨Nat.zero_le _, Nat.zero_le _⟩ rfl hl.1 rfl (Nat.le_of_ble_eq_true rfl) d_M_stableKind_1 (fun H locs hW hS => ?_)
  refine lv_if_lt (tgt := 12) hx hb d_M_stableKind_4 (by decide) (fun c4 => ?_) (fun c4 => ?_)
  · have h := ite_t c4 h
    refine lv_aload_n hx hb d_M_stableKind_12 rfl (lv_at hl 0 rfl) ?_
    refine hc_s (i := 48) C hW rfl (by decide) rfl rfl d_M_stableKind_13 ?_
    obtain ⟨r2, er2, h⟩ := ob_some h
    refine hx_V (i := 200) (As := [.ref (ad 348)]) (rest := []) C hW hS (s_M_is n 348 er2) km_M_144 kv_M_is ke_M_is kn_M kw_M_is kd_M_is (hW.fx 200 rfl) rfl q_M rfl ⟨by decide, by decide⟩ ⟨Nat.zero_le _, Nat.zero_le _⟩ rfl hl.1 rfl (Nat.le_of_ble_eq_true rfl) d_M_stableKind_15 (fun H locs hW hS => ?_)
    refine lv_if_eq (tgt := 26) hx hb d_M_stableKind_18 (by decide) (fun c18 => ?_) (fun c18 => ?_)
    · have h := ite_t c18 h
      refine lv_aload_n hx hb d_M_stableKind_26 rfl (lv_at hl 0 rfl) ?_
      refine hc_s (i := 49) C hW rfl (by decide) rfl rfl d_M_stableKind_27 ?_
      obtain ⟨r3, er3, h⟩ := ob_some h
      refine hx_V (i := 200) (As := [.ref (ad 349)]) (rest := []) C hW hS (s_M_is n 349 er3) km_M_144 kv_M_is ke_M_is kn_M kw_M_is kd_M_is (hW.fx 200 rfl) rfl q_M rfl ⟨by decide, by decide⟩ ⟨Nat.zero_le _, Nat.zero_le _⟩ rfl hl.1 rfl (Nat.le_of_ble_eq_true rfl) d_M_stableKind_29 (fun H locs hW hS => ?_)
      refine lv_if_eq (tgt := 40) hx hb d_M_stableKind_32 (by decide) (fun c32 => ?_) (fun c32 => ?_)
      · have h := ite_t c32 h
        refine lv_aload_n hx hb d_M_stableKind_40 rfl (lv_at hl 0 rfl) ?_
        refine hc_s (i := 50) C hW rfl (by decide) rfl rfl d_M_stableKind_41 ?_
        obtain ⟨r4, er4, h⟩ := ob_some h
        refine hx_V (i := 200) (As := [.ref (ad 350)]) (rest := []) C hW hS (s_M_is n 350 er4) km_M_144 kv_M_is ke_M_is kn_M kw_M_is kd_M_is (hW.fx 200 rfl) rfl q_M rfl ⟨by decide, by decide⟩ ⟨Nat.zero_le _, Nat.zero_le _⟩ rfl hl.1 rfl (Nat.le_of_ble_eq_true rfl) d_M_stableKind_43 (fun H locs hW hS => ?_)
        refine lv_if_eq (tgt := 54) hx hb d_M_stableKind_46 (by decide) (fun c46 => ?_) (fun c46 => ?_)
        · have h := ite_t c46 h
          refine lv_aload_n hx hb d_M_stableKind_54 rfl (lv_at hl 0 rfl) ?_
          refine hc_s (i := 51) C hW rfl (by decide) rfl rfl d_M_stableKind_55 ?_
          obtain ⟨r5, er5, h⟩ := ob_some h
          refine hx_V (i := 200) (As := [.ref (ad 351)]) (rest := []) C hW hS (s_M_is n 351 er5) km_M_144 kv_M_is ke_M_is kn_M kw_M_is kd_M_is (hW.fx 200 rfl) rfl q_M rfl ⟨by decide, by decide⟩ ⟨Nat.zero_le _, Nat.zero_le _⟩ rfl hl.1 rfl (Nat.le_of_ble_eq_true rfl) d_M_stableKind_57 (fun H locs hW hS => ?_)
          refine lv_if_eq (tgt := 68) hx hb d_M_stableKind_60 (by decide) (fun c60 => ?_) (fun c60 => ?_)
          · have h := ite_t c60 h
            refine lv_aload_n hx hb d_M_stableKind_68 rfl (lv_at hl 0 rfl) ?_
            refine hc_s (i := 52) C hW rfl (by decide) rfl rfl d_M_stableKind_69 ?_
            obtain ⟨r6, er6, h⟩ := ob_some h
            refine hx_V (i := 200) (As := [.ref (ad 352)]) (rest := []) C hW hS (s_M_is n 352 er6) km_M_144 kv_M_is ke_M_is kn_M kw_M_is kd_M_is (hW.fx 200 rfl) rfl q_M rfl ⟨by decide, by decide⟩ ⟨Nat.zero_le _, Nat.zero_le _⟩ rfl hl.1 rfl (Nat.le_of_ble_eq_true rfl) d_M_stableKind_71 (fun H locs hW hS => ?_)
            refine lv_if_eq (tgt := 82) hx hb d_M_stableKind_74 (by decide) (fun c74 => ?_) (fun c74 => ?_)
            · have h := ite_t c74 h
              refine lv_aload_n hx hb d_M_stableKind_82 rfl (lv_at hl 0 rfl) ?_
              refine hc_s (i := 53) C hW rfl (by decide) rfl rfl d_M_stableKind_83 ?_
              obtain ⟨r7, er7, h⟩ := ob_some h
              refine hx_V (i := 200) (As := [.ref (ad 353)]) (rest := []) C hW hS (s_M_is n 353 er7) km_M_144 kv_M_is ke_M_is kn_M kw_M_is kd_M_is (hW.fx 200 rfl) rfl q_M rfl ⟨by decide, by decide⟩ ⟨Nat.zero_le _, Nat.zero_le _⟩ rfl hl.1 rfl (Nat.le_of_ble_eq_true rfl) d_M_stableKind_85 (fun H locs hW hS => ?_)
              refine lv_if_eq (tgt := 96) hx hb d_M_stableKind_88 (by decide) (fun c88 => ?_) (fun c88 => ?_)
              · have h := ite_t c88 h
                refine lv_aload_n hx hb d_M_stableKind_96 rfl (lv_at hl 0 rfl) ?_
                refine hc_s (i := 39) C hW rfl (by decide) rfl rfl d_M_stableKind_97 ?_
                obtain ⟨r8, er8, h⟩ := ob_some h
                refine hx_V (i := 200) (As := [.ref (ad 339)]) (rest := []) C hW hS (s_M_is n 339 er8) km_M_144 kv_M_is ke_M_is kn_M kw_M_is kd_M_is (hW.fx 200 rfl) rfl q_M rfl ⟨by decide, by decide⟩ ⟨Nat.zero_le _, Nat.zero_le _⟩ rfl hl.1 rfl (Nat.le_of_ble_eq_true rfl) d_M_stableKind_99 (fun H locs hW hS => ?_)
                refine lv_if_eq (tgt := 110) hx hb d_M_stableKind_102 (by decide) (fun c102 => ?_) (fun c102 => ?_)
                · have h := ite_t c102 h
                  refine lv_aload_n hx hb d_M_stableKind_110 rfl (lv_at hl 0 rfl) ?_
                  refine hc_s (i := 40) C hW rfl (by decide) rfl rfl d_M_stableKind_111 ?_
                  obtain ⟨r9, er9, h⟩ := ob_some h
                  refine hx_V (i := 200) (As := [.ref (ad 340)]) (rest := []) C hW hS (s_M_is n 340 er9) km_M_144 kv_M_is ke_M_is kn_M kw_M_is kd_M_is (hW.fx 200 rfl) rfl q_M rfl ⟨by decide, by decide⟩ ⟨Nat.zero_le _, Nat.zero_le _⟩ rfl hl.1 rfl (Nat.le_of_ble_eq_true rfl) d_M_stableKind_113 (fun H locs hW hS => ?_)
                  refine lv_if_eq (tgt := 124) hx hb d_M_stableKind_116 (by decide) (fun c116 => ?_) (fun c116 => ?_)
                  · have h := ite_t c116 h
                    refine lv_iconst (v := -1) hx hb d_M_stableKind_124 (by decide) ?_
                    have h := Option.some.inj h
                    subst h
                    exact he_i C hW hS d_M_stableKind_125
                  · have h := ite_f c116 h
                    refine lv_bipush (v := 17) hx hb d_M_stableKind_119 (by decide) ?_
                    refine lv_goto (tgt := 125) hx hb d_M_stableKind_121 (by decide) ?_
                    have h := Option.some.inj h
                    subst h
                    exact he_i C hW hS d_M_stableKind_125
                · have h := ite_f c102 h
                  refine lv_bipush (v := 16) hx hb d_M_stableKind_105 (by decide) ?_
                  refine lv_goto (tgt := 125) hx hb d_M_stableKind_107 (by decide) ?_
                  have h := Option.some.inj h
                  subst h
                  exact he_i C hW hS d_M_stableKind_125
              · have h := ite_f c88 h
                refine lv_bipush (v := 15) hx hb d_M_stableKind_91 (by decide) ?_
                refine lv_goto (tgt := 125) hx hb d_M_stableKind_93 (by decide) ?_
                have h := Option.some.inj h
                subst h
                exact he_i C hW hS d_M_stableKind_125
            · have h := ite_f c74 h
              refine lv_bipush (v := 14) hx hb d_M_stableKind_77 (by decide) ?_
              refine lv_goto (tgt := 125) hx hb d_M_stableKind_79 (by decide) ?_
              have h := Option.some.inj h
              subst h
              exact he_i C hW hS d_M_stableKind_125
          · have h := ite_f c60 h
            refine lv_bipush (v := 13) hx hb d_M_stableKind_63 (by decide) ?_
            refine lv_goto (tgt := 125) hx hb d_M_stableKind_65 (by decide) ?_
            have h := Option.some.inj h
            subst h
            exact he_i C hW hS d_M_stableKind_125
        · have h := ite_f c46 h
          refine lv_bipush (v := 12) hx hb d_M_stableKind_49 (by decide) ?_
          refine lv_goto (tgt := 125) hx hb d_M_stableKind_51 (by decide) ?_
          have h := Option.some.inj h
          subst h
          exact he_i C hW hS d_M_stableKind_125
      · have h := ite_f c32 h
        refine lv_bipush (v := 11) hx hb d_M_stableKind_35 (by decide) ?_
        refine lv_goto (tgt := 125) hx hb d_M_stableKind_37 (by decide) ?_
        have h := Option.some.inj h
        subst h
        exact he_i C hW hS d_M_stableKind_125
    · have h := ite_f c18 h
      refine lv_bipush (v := 10) hx hb d_M_stableKind_21 (by decide) ?_
      refine lv_goto (tgt := 125) hx hb d_M_stableKind_23 (by decide) ?_
      have h := Option.some.inj h
      subst h
      exact he_i C hW hS d_M_stableKind_125
  · have h := ite_f c4 h
    refine lv_aload_n hx hb d_M_stableKind_7 rfl (lv_at hl 0 rfl) ?_
    obtain ⟨r10, er10, h⟩ := ob_some h
    refine hx_V (i := 200) (As := []) (rest := []) C hW hS (s_M_operation n er10) km_M_168 kv_M_operation ke_M_operation kn_M kw_M_operation kd_M_operation (hW.fx 200 rfl) rfl q_M rfl ⟨by decide, by decide⟩ ⟨Nat.zero_le _, Nat.zero_le _⟩ rfl hl.1 rfl (Nat.le_of_ble_eq_true rfl) d_M_stableKind_8 (fun H locs hW hS => ?_)
    have h := Option.some.inj h
    subst h
    exact he_i C hW hS d_M_stableKind_11
end WK
def f_M_changeableKind (n : Nat) (S : HS) : Option Int32 :=
  ob (f_M_is n 354 S) fun r1 =>
  (if r1 = 0 then
  ob (f_M_is n 355 S) fun r2 =>
  (if r2 = 0 then
  ob (f_M_is n 348 S) fun r3 =>
  (if r3 = 0 then
  ob (f_M_is n 349 S) fun r4 =>
  (if r4 = 0 then
  ob (f_M_is n 350 S) fun r5 =>
  (if r5 = 0 then
  ob (f_M_is n 356 S) fun r6 =>
  (if r6 = 0 then
  some (-1 : Int32)
  else
  some (23 : Int32))
  else
  some (22 : Int32))
  else
  some (21 : Int32))
  else
  some (20 : Int32))
  else
  some (19 : Int32))
  else
  some (18 : Int32))
section WK
variable {p : Program} {l : Launch} {e : Env} {s : State} {m : MethodId} {args : Array Value} {below : List Frame} {meth : Method} {c : Code} {D : va_G} {cA : Nat → ClassId} {z : Nat} {ac : Nat → Nat} {ad : Nat → Nat}
set_option maxHeartbeats 4000000 in
set_option maxRecDepth 100000 in
theorem s_M_changeableKind (n : Nat) {S : HS} {r : Int32} (h : f_M_changeableKind n S = some r) : Met l y_M_changeableKind (.code y_M_changeableKind b_M_changeableKind 1 (some .int) :: lw_g) (rmD 5 0 0) (PcH D cA z ac E1 ad [.ref (ad 200)] S) (QN D cA z ac E1 ad (some (.int r)) S) 0 0 (zA z) := by
  refine Met.ofH (own := "TwoLevelParserModel") (by decide) rfl (Nat.le_of_ble_eq_true rfl) ?_
  intro p e s m args below meth c H ls C hW hS hl
  have hl : lv_has ls 1 [(0, .ref (ad 200))] := hl
  obtain ⟨⟨hx, hb, hml, hown, hts⟩, hK, hr, hlo⟩ := id C
  unfold f_M_changeableKind at h
  refine lv_aload_n hx hb d_M_changeableKind_0 rfl (lv_at hl 0 rfl) ?_
  refine hc_s (i := 54) C hW rfl (by decide) rfl rfl d_M_changeableKind_1 ?_
  obtain ⟨r1, er1, h⟩ := ob_some h
  refine hx_V (i := 200) (As := [.ref (ad 354)]) (rest := []) C hW hS (s_M_is n 354 er1) km_M_144 kv_M_is ke_M_is kn_M kw_M_is kd_M_is (hW.fx 200 rfl) rfl q_M rfl ⟨by decide, by decide⟩ ⟨Nat.zero_le _, Nat.zero_le _⟩ rfl hl.1 rfl (Nat.le_of_ble_eq_true rfl) d_M_changeableKind_3 (fun H locs hW hS => ?_)
  refine lv_if_eq (tgt := 14) hx hb d_M_changeableKind_6 (by decide) (fun c6 => ?_) (fun c6 => ?_)
  · have h := ite_t c6 h
    refine lv_aload_n hx hb d_M_changeableKind_14 rfl (lv_at hl 0 rfl) ?_
    refine hc_s (i := 55) C hW rfl (by decide) rfl rfl d_M_changeableKind_15 ?_
    obtain ⟨r2, er2, h⟩ := ob_some h
    refine hx_V (i := 200) (As := [.ref (ad 355)]) (rest := []) C hW hS (s_M_is n 355 er2) km_M_144 kv_M_is ke_M_is kn_M kw_M_is kd_M_is (hW.fx 200 rfl) rfl q_M rfl ⟨by decide, by decide⟩ ⟨Nat.zero_le _, Nat.zero_le _⟩ rfl hl.1 rfl (Nat.le_of_ble_eq_true rfl) d_M_changeableKind_17 (fun H locs hW hS => ?_)
    refine lv_if_eq (tgt := 28) hx hb d_M_changeableKind_20 (by decide) (fun c20 => ?_) (fun c20 => ?_)
    · have h := ite_t c20 h
      refine lv_aload_n hx hb d_M_changeableKind_28 rfl (lv_at hl 0 rfl) ?_
      refine hc_s (i := 48) C hW rfl (by decide) rfl rfl d_M_changeableKind_29 ?_
      obtain ⟨r3, er3, h⟩ := ob_some h
      refine hx_V (i := 200) (As := [.ref (ad 348)]) (rest := []) C hW hS (s_M_is n 348 er3) km_M_144 kv_M_is ke_M_is kn_M kw_M_is kd_M_is (hW.fx 200 rfl) rfl q_M rfl ⟨by decide, by decide⟩ ⟨Nat.zero_le _, Nat.zero_le _⟩ rfl hl.1 rfl (Nat.le_of_ble_eq_true rfl) d_M_changeableKind_31 (fun H locs hW hS => ?_)
      refine lv_if_eq (tgt := 42) hx hb d_M_changeableKind_34 (by decide) (fun c34 => ?_) (fun c34 => ?_)
      · have h := ite_t c34 h
        refine lv_aload_n hx hb d_M_changeableKind_42 rfl (lv_at hl 0 rfl) ?_
        refine hc_s (i := 49) C hW rfl (by decide) rfl rfl d_M_changeableKind_43 ?_
        obtain ⟨r4, er4, h⟩ := ob_some h
        refine hx_V (i := 200) (As := [.ref (ad 349)]) (rest := []) C hW hS (s_M_is n 349 er4) km_M_144 kv_M_is ke_M_is kn_M kw_M_is kd_M_is (hW.fx 200 rfl) rfl q_M rfl ⟨by decide, by decide⟩ ⟨Nat.zero_le _, Nat.zero_le _⟩ rfl hl.1 rfl (Nat.le_of_ble_eq_true rfl) d_M_changeableKind_45 (fun H locs hW hS => ?_)
        refine lv_if_eq (tgt := 56) hx hb d_M_changeableKind_48 (by decide) (fun c48 => ?_) (fun c48 => ?_)
        · have h := ite_t c48 h
          refine lv_aload_n hx hb d_M_changeableKind_56 rfl (lv_at hl 0 rfl) ?_
          refine hc_s (i := 50) C hW rfl (by decide) rfl rfl d_M_changeableKind_57 ?_
          obtain ⟨r5, er5, h⟩ := ob_some h
          refine hx_V (i := 200) (As := [.ref (ad 350)]) (rest := []) C hW hS (s_M_is n 350 er5) km_M_144 kv_M_is ke_M_is kn_M kw_M_is kd_M_is (hW.fx 200 rfl) rfl q_M rfl ⟨by decide, by decide⟩ ⟨Nat.zero_le _, Nat.zero_le _⟩ rfl hl.1 rfl (Nat.le_of_ble_eq_true rfl) d_M_changeableKind_59 (fun H locs hW hS => ?_)
          refine lv_if_eq (tgt := 70) hx hb d_M_changeableKind_62 (by decide) (fun c62 => ?_) (fun c62 => ?_)
          · have h := ite_t c62 h
            refine lv_aload_n hx hb d_M_changeableKind_70 rfl (lv_at hl 0 rfl) ?_
            refine hc_s (i := 56) C hW rfl (by decide) rfl rfl d_M_changeableKind_71 ?_
            obtain ⟨r6, er6, h⟩ := ob_some h
            refine hx_V (i := 200) (As := [.ref (ad 356)]) (rest := []) C hW hS (s_M_is n 356 er6) km_M_144 kv_M_is ke_M_is kn_M kw_M_is kd_M_is (hW.fx 200 rfl) rfl q_M rfl ⟨by decide, by decide⟩ ⟨Nat.zero_le _, Nat.zero_le _⟩ rfl hl.1 rfl (Nat.le_of_ble_eq_true rfl) d_M_changeableKind_73 (fun H locs hW hS => ?_)
            refine lv_if_eq (tgt := 84) hx hb d_M_changeableKind_76 (by decide) (fun c76 => ?_) (fun c76 => ?_)
            · have h := ite_t c76 h
              refine lv_iconst (v := -1) hx hb d_M_changeableKind_84 (by decide) ?_
              have h := Option.some.inj h
              subst h
              exact he_i C hW hS d_M_changeableKind_85
            · have h := ite_f c76 h
              refine lv_bipush (v := 23) hx hb d_M_changeableKind_79 (by decide) ?_
              refine lv_goto (tgt := 85) hx hb d_M_changeableKind_81 (by decide) ?_
              have h := Option.some.inj h
              subst h
              exact he_i C hW hS d_M_changeableKind_85
          · have h := ite_f c62 h
            refine lv_bipush (v := 22) hx hb d_M_changeableKind_65 (by decide) ?_
            refine lv_goto (tgt := 85) hx hb d_M_changeableKind_67 (by decide) ?_
            have h := Option.some.inj h
            subst h
            exact he_i C hW hS d_M_changeableKind_85
        · have h := ite_f c48 h
          refine lv_bipush (v := 21) hx hb d_M_changeableKind_51 (by decide) ?_
          refine lv_goto (tgt := 85) hx hb d_M_changeableKind_53 (by decide) ?_
          have h := Option.some.inj h
          subst h
          exact he_i C hW hS d_M_changeableKind_85
      · have h := ite_f c34 h
        refine lv_bipush (v := 20) hx hb d_M_changeableKind_37 (by decide) ?_
        refine lv_goto (tgt := 85) hx hb d_M_changeableKind_39 (by decide) ?_
        have h := Option.some.inj h
        subst h
        exact he_i C hW hS d_M_changeableKind_85
    · have h := ite_f c20 h
      refine lv_bipush (v := 19) hx hb d_M_changeableKind_23 (by decide) ?_
      refine lv_goto (tgt := 85) hx hb d_M_changeableKind_25 (by decide) ?_
      have h := Option.some.inj h
      subst h
      exact he_i C hW hS d_M_changeableKind_85
  · have h := ite_f c6 h
    refine lv_bipush (v := 18) hx hb d_M_changeableKind_9 (by decide) ?_
    refine lv_goto (tgt := 85) hx hb d_M_changeableKind_11 (by decide) ?_
    have h := Option.some.inj h
    subst h
    exact he_i C hW hS d_M_changeableKind_85
end WK
def f_M_isOwn (n : Nat) (S : HS) : Option Int32 :=
  (if (gF S 200 6) = (2 : Int32) then
  ob (f_M_type n S) fun r1 =>
  (if 0 ≤ r1 then
  some (0 : Int32)
  else
  ob (f_M_stableKind n S) fun r2 =>
  (if 0 ≤ r2 then
  some (0 : Int32)
  else
  ob (f_M_changeableKind n S) fun r3 =>
  (if 0 ≤ r3 then
  some (0 : Int32)
  else
  ob (f_M_is n 335 S) fun r4 =>
  (if r4 = 0 then
  ob (f_M_is n 336 S) fun r5 =>
  (if r5 = 0 then
  ob (f_M_is n 357 S) fun r6 =>
  (if r6 = 0 then
  some (1 : Int32)
  else
  some (0 : Int32))
  else
  some (0 : Int32))
  else
  some (0 : Int32)))))
  else
  some (0 : Int32))
section WK
variable {p : Program} {l : Launch} {e : Env} {s : State} {m : MethodId} {args : Array Value} {below : List Frame} {meth : Method} {c : Code} {D : va_G} {cA : Nat → ClassId} {z : Nat} {ac : Nat → Nat} {ad : Nat → Nat}
set_option maxHeartbeats 4000000 in
set_option maxRecDepth 100000 in
theorem s_M_isOwn (n : Nat) {S : HS} {r : Int32} (h : f_M_isOwn n S = some r) : Met l y_M_isOwn (.code y_M_isOwn b_M_isOwn 1 (some .boolean) :: lw_g) (rmD 7 0 0) (PcH D cA z ac E1 ad [.ref (ad 200)] S) (QN D cA z ac E1 ad (some (.int r)) S) 0 0 (zA z) := by
  refine Met.ofH (own := "TwoLevelParserModel") (by decide) rfl (Nat.le_of_ble_eq_true rfl) ?_
  intro p e s m args below meth c H ls C hW hS hl
  have hl : lv_has ls 1 [(0, .ref (ad 200))] := hl
  obtain ⟨⟨hx, hb, hml, hown, hts⟩, hK, hr, hlo⟩ := id C
  unfold f_M_isOwn at h
  refine lv_aload_n hx hb d_M_isOwn_0 rfl (lv_at hl 0 rfl) ?_
  refine hg_i C hW 200 6 (hW.fx 200 rfl) rfl q_M (by decide) rfl (lkF C kf_M_99) d_M_isOwn_1 ?_
  refine lv_iconst (v := 2) hx hb d_M_isOwn_4 (by decide) ?_
  refine lv_icmp_ne (tgt := 60) hx hb d_M_isOwn_5 (by decide) (fun c5 => ?_) (fun c5 => ?_)
  · have h := ite_f c5 h
    refine lv_iconst (v := 0) hx hb d_M_isOwn_60 (by decide) ?_
    have h := Option.some.inj h
    subst h
    exact he_z C hW hS (by decide) d_M_isOwn_61
  · have h := ite_t c5 h
    refine lv_aload_n hx hb d_M_isOwn_8 rfl (lv_at hl 0 rfl) ?_
    obtain ⟨r1, er1, h⟩ := ob_some h
    refine hx_V (i := 200) (As := []) (rest := []) C hW hS (s_M_type n er1) km_M_189 kv_M_type ke_M_type kn_M kw_M_type kd_M_type (hW.fx 200 rfl) rfl q_M rfl ⟨by decide, by decide⟩ ⟨Nat.zero_le _, Nat.zero_le _⟩ rfl hl.1 rfl (Nat.le_of_ble_eq_true rfl) d_M_isOwn_9 (fun H locs hW hS => ?_)
    refine lv_if_ge (tgt := 60) hx hb d_M_isOwn_12 (by decide) (fun c12 => ?_) (fun c12 => ?_)
    · have h := ite_t c12 h
      refine lv_iconst (v := 0) hx hb d_M_isOwn_60 (by decide) ?_
      have h := Option.some.inj h
      subst h
      exact he_z C hW hS (by decide) d_M_isOwn_61
    · have h := ite_f c12 h
      refine lv_aload_n hx hb d_M_isOwn_15 rfl (lv_at hl 0 rfl) ?_
      obtain ⟨r2, er2, h⟩ := ob_some h
      refine hx_V (i := 200) (As := []) (rest := []) C hW hS (s_M_stableKind n er2) km_M_192 kv_M_stableKind ke_M_stableKind kn_M kw_M_stableKind kd_M_stableKind (hW.fx 200 rfl) rfl q_M rfl ⟨by decide, by decide⟩ ⟨Nat.zero_le _, Nat.zero_le _⟩ rfl hl.1 rfl (Nat.le_of_ble_eq_true rfl) d_M_isOwn_16 (fun H locs hW hS => ?_)
      refine lv_if_ge (tgt := 60) hx hb d_M_isOwn_19 (by decide) (fun c19 => ?_) (fun c19 => ?_)
      · have h := ite_t c19 h
        refine lv_iconst (v := 0) hx hb d_M_isOwn_60 (by decide) ?_
        have h := Option.some.inj h
        subst h
        exact he_z C hW hS (by decide) d_M_isOwn_61
      · have h := ite_f c19 h
        refine lv_aload_n hx hb d_M_isOwn_22 rfl (lv_at hl 0 rfl) ?_
        obtain ⟨r3, er3, h⟩ := ob_some h
        refine hx_V (i := 200) (As := []) (rest := []) C hW hS (s_M_changeableKind n er3) km_M_195 kv_M_changeableKind ke_M_changeableKind kn_M kw_M_changeableKind kd_M_changeableKind (hW.fx 200 rfl) rfl q_M rfl ⟨by decide, by decide⟩ ⟨Nat.zero_le _, Nat.zero_le _⟩ rfl hl.1 rfl (Nat.le_of_ble_eq_true rfl) d_M_isOwn_23 (fun H locs hW hS => ?_)
        refine lv_if_ge (tgt := 60) hx hb d_M_isOwn_26 (by decide) (fun c26 => ?_) (fun c26 => ?_)
        · have h := ite_t c26 h
          refine lv_iconst (v := 0) hx hb d_M_isOwn_60 (by decide) ?_
          have h := Option.some.inj h
          subst h
          exact he_z C hW hS (by decide) d_M_isOwn_61
        · have h := ite_f c26 h
          refine lv_aload_n hx hb d_M_isOwn_29 rfl (lv_at hl 0 rfl) ?_
          refine hc_s (i := 35) C hW rfl (by decide) rfl rfl d_M_isOwn_30 ?_
          obtain ⟨r4, er4, h⟩ := ob_some h
          refine hx_V (i := 200) (As := [.ref (ad 335)]) (rest := []) C hW hS (s_M_is n 335 er4) km_M_144 kv_M_is ke_M_is kn_M kw_M_is kd_M_is (hW.fx 200 rfl) rfl q_M rfl ⟨by decide, by decide⟩ ⟨Nat.zero_le _, Nat.zero_le _⟩ rfl hl.1 rfl (Nat.le_of_ble_eq_true rfl) d_M_isOwn_32 (fun H locs hW hS => ?_)
          refine lv_if_ne (tgt := 60) hx hb d_M_isOwn_35 (by decide) (fun c35 => ?_) (fun c35 => ?_)
          · have h := ite_f c35 h
            refine lv_iconst (v := 0) hx hb d_M_isOwn_60 (by decide) ?_
            have h := Option.some.inj h
            subst h
            exact he_z C hW hS (by decide) d_M_isOwn_61
          · have h := ite_t c35 h
            refine lv_aload_n hx hb d_M_isOwn_38 rfl (lv_at hl 0 rfl) ?_
            refine hc_s (i := 36) C hW rfl (by decide) rfl rfl d_M_isOwn_39 ?_
            obtain ⟨r5, er5, h⟩ := ob_some h
            refine hx_V (i := 200) (As := [.ref (ad 336)]) (rest := []) C hW hS (s_M_is n 336 er5) km_M_144 kv_M_is ke_M_is kn_M kw_M_is kd_M_is (hW.fx 200 rfl) rfl q_M rfl ⟨by decide, by decide⟩ ⟨Nat.zero_le _, Nat.zero_le _⟩ rfl hl.1 rfl (Nat.le_of_ble_eq_true rfl) d_M_isOwn_41 (fun H locs hW hS => ?_)
            refine lv_if_ne (tgt := 60) hx hb d_M_isOwn_44 (by decide) (fun c44 => ?_) (fun c44 => ?_)
            · have h := ite_f c44 h
              refine lv_iconst (v := 0) hx hb d_M_isOwn_60 (by decide) ?_
              have h := Option.some.inj h
              subst h
              exact he_z C hW hS (by decide) d_M_isOwn_61
            · have h := ite_t c44 h
              refine lv_aload_n hx hb d_M_isOwn_47 rfl (lv_at hl 0 rfl) ?_
              refine hc_s (i := 57) C hW rfl (by decide) rfl rfl d_M_isOwn_48 ?_
              obtain ⟨r6, er6, h⟩ := ob_some h
              refine hx_V (i := 200) (As := [.ref (ad 357)]) (rest := []) C hW hS (s_M_is n 357 er6) km_M_144 kv_M_is ke_M_is kn_M kw_M_is kd_M_is (hW.fx 200 rfl) rfl q_M rfl ⟨by decide, by decide⟩ ⟨Nat.zero_le _, Nat.zero_le _⟩ rfl hl.1 rfl (Nat.le_of_ble_eq_true rfl) d_M_isOwn_50 (fun H locs hW hS => ?_)
              refine lv_if_ne (tgt := 60) hx hb d_M_isOwn_53 (by decide) (fun c53 => ?_) (fun c53 => ?_)
              · have h := ite_f c53 h
                refine lv_iconst (v := 0) hx hb d_M_isOwn_60 (by decide) ?_
                have h := Option.some.inj h
                subst h
                exact he_z C hW hS (by decide) d_M_isOwn_61
              · have h := ite_t c53 h
                refine lv_iconst (v := 1) hx hb d_M_isOwn_56 (by decide) ?_
                refine lv_goto (tgt := 61) hx hb d_M_isOwn_57 (by decide) ?_
                have h := Option.some.inj h
                subst h
                exact he_z C hW hS (by decide) d_M_isOwn_61
end WK
