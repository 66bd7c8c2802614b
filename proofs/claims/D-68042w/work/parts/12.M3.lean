-- printed by gen/walk.py
def f_M_bind_b15 (y0 : Int32) (S : HS) : Option HS :=
  ob2 (f_M_must y0 S) fun r2 S1 =>
  (if r2 = 0 then
  some S1
  else
  lt (sF S1 200 32 ((gF S1 200 32) + (1 : Int32))) fun S3 =>
  some S3)
def f_M_bind (S : HS) : Option HS :=
  (if (24 : Int32) ≤ (gF S 200 32) then
  f_M_bind_b15 (0 : Int32) S
  else
  f_M_bind_b15 (1 : Int32) S)
section WK
variable {p : Program} {l : Launch} {e : Env} {s : State} {m : MethodId} {args : Array Value} {below : List Frame} {meth : Method} {c : Code} {D : va_G} {cA : Nat → ClassId} {z : Nat} {ac : Nat → Nat} {ad : Nat → Nat}
set_option maxHeartbeats 4000000 in
set_option maxRecDepth 100000 in
theorem w_M_bind_15 (C : CB p s m args c meth b_M_bind "TwoLevelParserModel" 1 none D cA z ac) {S' : HS} (y0 : Int32) {S : HS} {H : Heap} {locs : List Loc} {ls : Array Slot} (h : f_M_bind_b15 y0 S = some S') (hW : HW D cA z ac E1 ad S H) (hS : va_S (zA z) s.heap H locs) (hl : lv_has ls 1 [(0, .ref (ad 200))]) : GW p l e 2 s m args below meth c D cA z ac E1 ad none S' H locs (F0 m 15 ls [.int (y0), .ref (ad 200)]) := by
  obtain ⟨⟨hx, hb, hml, hown, hts⟩, hK, hr, hlo⟩ := id C
  unfold f_M_bind_b15 at h
  obtain ⟨r2, S1, eS1, h⟩ := ob2_some h
  refine hx_V (i := 200) (As := [.int (y0)]) (rest := []) C hW hS (s_M_must y0 eS1) km_M_213 kv_M_must ke_M_must kn_M kw_M_must kd_M_must (hW.fx 200 rfl) rfl q_M rfl ⟨by decide, by decide⟩ ⟨Nat.zero_le _, Nat.zero_le _⟩ rfl hl.1 rfl (Nat.le_of_ble_eq_true rfl) d_M_bind_15 (fun H locs hW hS => ?_)
  refine lv_if_eq (tgt := 31) hx hb d_M_bind_18 (by decide) (fun c18 => ?_) (fun c18 => ?_)
  · have h := ite_t c18 h
    have h := Option.some.inj h
    subst h
    exact he_v C hW hS d_M_bind_31
  · have h := ite_f c18 h
    refine lv_aload_n hx hb d_M_bind_21 rfl (lv_at hl 0 rfl) ?_
    refine lv_dup hx hb d_M_bind_22 rfl ?_
    refine hg_i C hW 200 32 (hW.fx 200 rfl) rfl q_M (by decide) rfl (lkF C kf_M_210) d_M_bind_23 ?_
    refine lv_iconst (v := 1) hx hb d_M_bind_26 (by decide) ?_
    refine lv_iadd hx hb d_M_bind_27 ?_
    obtain ⟨S3, eS3, h⟩ := lt_some h
    refine hp_i C hW hS 200 32 (hW.fx 200 rfl) rfl q_M (by decide) rfl rfl rfl (lkF C kf_M_210) eS3 d_M_bind_28 (fun H locs hW hS => ?_)
    have h := Option.some.inj h
    subst h
    exact he_v C hW hS d_M_bind_31
set_option maxHeartbeats 4000000 in
set_option maxRecDepth 100000 in
theorem s_M_bind {S : HS} {S' : HS} (h : f_M_bind S = some S') : Met l y_M_bind (.code y_M_bind b_M_bind 1 none :: lw_g) (rmD 2 0 0) (PcH D cA z ac E1 ad [.ref (ad 200)] S) (QN D cA z ac E1 ad none S') 0 0 (zA z) := by
  refine Met.ofH (own := "TwoLevelParserModel") (by decide) rfl (Nat.le_of_ble_eq_true rfl) ?_
  intro p e s m args below meth c H ls C hW hS hl
  have hl : lv_has ls 1 [(0, .ref (ad 200))] := hl
  obtain ⟨⟨hx, hb, hml, hown, hts⟩, hK, hr, hlo⟩ := id C
  unfold f_M_bind at h
  refine lv_aload_n hx hb d_M_bind_0 rfl (lv_at hl 0 rfl) ?_
  refine lv_aload_n hx hb d_M_bind_1 rfl (lv_at hl 0 rfl) ?_
  refine hg_i C hW 200 32 (hW.fx 200 rfl) rfl q_M (by decide) rfl (lkF C kf_M_210) d_M_bind_2 ?_
  refine lv_bipush (v := 24) hx hb d_M_bind_5 (by decide) ?_
  refine lv_icmp_ge (tgt := 14) hx hb d_M_bind_7 (by decide) (fun c7 => ?_) (fun c7 => ?_)
  · have h := ite_t c7 h
    refine lv_iconst (v := 0) hx hb d_M_bind_14 (by decide) ?_
    exact w_M_bind_15 C (0 : Int32) h hW hS (lv_sub hl [0] rfl)
  · have h := ite_f c7 h
    refine lv_iconst (v := 1) hx hb d_M_bind_10 (by decide) ?_
    refine lv_goto (tgt := 15) hx hb d_M_bind_11 (by decide) ?_
    exact w_M_bind_15 C (1 : Int32) h hW hS (lv_sub hl [0] rfl)
end WK
def f_M_letBinds_b15 (x1 : Int32) (y0 : Int32) (S : HS) : Option HS :=
  ob2 (f_M_must y0 S) fun r2 S1 =>
  (if r2 = 0 then
  some S1
  else
  ob (f_M_push (10 : Int32) x1 S1) fun S3 =>
  ob (f_M_push (1 : Int32) x1 S3) fun S4 =>
  some S4)
def f_M_letBinds (x1 : Int32) (S : HS) : Option HS :=
  (if (24 : Int32) ≤ (gF S 200 32) then
  f_M_letBinds_b15 x1 (0 : Int32) S
  else
  f_M_letBinds_b15 x1 (1 : Int32) S)
section WK
variable {p : Program} {l : Launch} {e : Env} {s : State} {m : MethodId} {args : Array Value} {below : List Frame} {meth : Method} {c : Code} {D : va_G} {cA : Nat → ClassId} {z : Nat} {ac : Nat → Nat} {ad : Nat → Nat}
set_option maxHeartbeats 4000000 in
set_option maxRecDepth 100000 in
theorem w_M_letBinds_15 (C : CB p s m args c meth b_M_letBinds "TwoLevelParserModel" 2 none D cA z ac) {S' : HS} (x1 : Int32) (y0 : Int32) {S : HS} {H : Heap} {locs : List Loc} {ls : Array Slot} (h : f_M_letBinds_b15 x1 y0 S = some S') (hW : HW D cA z ac E1 ad S H) (hS : va_S (zA z) s.heap H locs) (hl : lv_has ls 2 [(0, .ref (ad 200)), (1, .int (x1))]) : GW p l e 2 s m args below meth c D cA z ac E1 ad none S' H locs (F0 m 15 ls [.int (y0), .ref (ad 200)]) := by
  obtain ⟨⟨hx, hb, hml, hown, hts⟩, hK, hr, hlo⟩ := id C
  unfold f_M_letBinds_b15 at h
  obtain ⟨r2, S1, eS1, h⟩ := ob2_some h
  refine hx_V (i := 200) (As := [.int (y0)]) (rest := []) C hW hS (s_M_must y0 eS1) km_M_213 kv_M_must ke_M_must kn_M kw_M_must kd_M_must (hW.fx 200 rfl) rfl q_M rfl ⟨by decide, by decide⟩ ⟨Nat.zero_le _, Nat.zero_le _⟩ rfl hl.1 rfl (Nat.le_of_ble_eq_true rfl) d_M_letBinds_15 (fun H locs hW hS => ?_)
  refine lv_if_eq (tgt := 34) hx hb d_M_letBinds_18 (by decide) (fun c18 => ?_) (fun c18 => ?_)
  · have h := ite_t c18 h
    have h := Option.some.inj h
    subst h
    exact he_v C hW hS d_M_letBinds_34
  · have h := ite_f c18 h
    refine lv_aload_n hx hb d_M_letBinds_21 rfl (lv_at hl 0 rfl) ?_
    refine lv_bipush (v := 10) hx hb d_M_letBinds_22 (by decide) ?_
    refine lv_iload_n hx hb d_M_letBinds_24 rfl (lv_at hl 1 rfl) ?_
    obtain ⟨S3, eS3, h⟩ := ob_some h
    refine hx_V (i := 200) (As := [.int ((10 : Int32)), .int (x1)]) (rest := []) C hW hS (s_M_push (10 : Int32) x1 eS3) km_M_217 kv_M_push ke_M_push kn_M kw_M_push kd_M_push (hW.fx 200 rfl) rfl q_M rfl ⟨by decide, by decide⟩ ⟨Nat.zero_le _, Nat.zero_le _⟩ rfl hl.1 rfl (Nat.le_of_ble_eq_true rfl) d_M_letBinds_25 (fun H locs hW hS => ?_)
    refine lv_aload_n hx hb d_M_letBinds_28 rfl (lv_at hl 0 rfl) ?_
    refine lv_iconst (v := 1) hx hb d_M_letBinds_29 (by decide) ?_
    refine lv_iload_n hx hb d_M_letBinds_30 rfl (lv_at hl 1 rfl) ?_
    obtain ⟨S4, eS4, h⟩ := ob_some h
    refine hx_V (i := 200) (As := [.int ((1 : Int32)), .int (x1)]) (rest := []) C hW hS (s_M_push (1 : Int32) x1 eS4) km_M_217 kv_M_push ke_M_push kn_M kw_M_push kd_M_push (hW.fx 200 rfl) rfl q_M rfl ⟨by decide, by decide⟩ ⟨Nat.zero_le _, Nat.zero_le _⟩ rfl hl.1 rfl (Nat.le_of_ble_eq_true rfl) d_M_letBinds_31 (fun H locs hW hS => ?_)
    have h := Option.some.inj h
    subst h
    exact he_v C hW hS d_M_letBinds_34
set_option maxHeartbeats 4000000 in
set_option maxRecDepth 100000 in
theorem s_M_letBinds (x1 : Int32) {S : HS} {S' : HS} (h : f_M_letBinds x1 S = some S') : Met l y_M_letBinds (.code y_M_letBinds b_M_letBinds 2 none :: lw_g) (rmD 2 0 0) (PcH D cA z ac E1 ad [.ref (ad 200), .int (x1)] S) (QN D cA z ac E1 ad none S') 0 0 (zA z) := by
  refine Met.ofH (own := "TwoLevelParserModel") (by decide) rfl (Nat.le_of_ble_eq_true rfl) ?_
  intro p e s m args below meth c H ls C hW hS hl
  have hl : lv_has ls 2 [(0, .ref (ad 200)), (1, .int (x1))] := hl
  obtain ⟨⟨hx, hb, hml, hown, hts⟩, hK, hr, hlo⟩ := id C
  unfold f_M_letBinds at h
  refine lv_aload_n hx hb d_M_letBinds_0 rfl (lv_at hl 0 rfl) ?_
  refine lv_aload_n hx hb d_M_letBinds_1 rfl (lv_at hl 0 rfl) ?_
  refine hg_i C hW 200 32 (hW.fx 200 rfl) rfl q_M (by decide) rfl (lkF C kf_M_210) d_M_letBinds_2 ?_
  refine lv_bipush (v := 24) hx hb d_M_letBinds_5 (by decide) ?_
  refine lv_icmp_ge (tgt := 14) hx hb d_M_letBinds_7 (by decide) (fun c7 => ?_) (fun c7 => ?_)
  · have h := ite_t c7 h
    refine lv_iconst (v := 0) hx hb d_M_letBinds_14 (by decide) ?_
    exact w_M_letBinds_15 C x1 (0 : Int32) h hW hS (lv_sub hl [0, 1] rfl)
  · have h := ite_f c7 h
    refine lv_iconst (v := 1) hx hb d_M_letBinds_10 (by decide) ?_
    refine lv_goto (tgt := 15) hx hb d_M_letBinds_11 (by decide) ?_
    exact w_M_letBinds_15 C x1 (1 : Int32) h hW hS (lv_sub hl [0, 1] rfl)
end WK
def f_M_begin_b150 (n : Nat) (x3 : Int32) (x4 : Int32) (y0 : Int32) (S : HS) : Option HS :=
  ob2 (f_M_must y0 S) fun r25 S24 =>
  (if r25 = 0 then
  some S24
  else
  gd (inR x3 8192) <|
  lt (sF S24 220 x3.toNatClampNeg x4) fun S27 =>
  ob (f_M_expect x3 S27) fun S28 =>
  some S28)
def f_M_begin_b137 (n : Nat) (x3 : Int32) (y0 : Int32) (S : HS) : Option HS :=
  lt y0 fun v23 =>
  (if v23 < 0 then
  f_M_begin_b150 n x3 v23 (0 : Int32) S
  else
  f_M_begin_b150 n x3 v23 (1 : Int32) S)
def f_M_begin_b94 (n : Nat) (x1 : Int32) (x2 : Int32) (y0 : Int32) (S : HS) : Option HS :=
  ob2 (f_M_must y0 S) fun r16 S15 =>
  (if r16 = 0 then
  some S15
  else
  ob2 (f_M_make (0 : Int32) x2 S15) fun r18 S17 =>
  lt r18 fun v19 =>
  ob (f_M_next n S17) fun S20 =>
  (if (gF S20 200 3) ≤ 0 then
  (if x1 = 0 then
  ob (f_M_changeableKind n S20) fun r21 =>
  f_M_begin_b137 n v19 r21 S20
  else
  ob (f_M_stableKind n S20) fun r22 =>
  f_M_begin_b137 n v19 r22 S20)
  else
  f_M_begin_b137 n v19 (-1 : Int32) S20))
def f_M_begin_b81 (n : Nat) (x1 : Int32) (x2 : Int32) (S : HS) : Option HS :=
  (if (gF S 200 6) = 0 then
  f_M_begin_b94 n x1 x2 (1 : Int32) S
  else
  f_M_begin_b94 n x1 x2 (0 : Int32) S)
def f_M_begin_b58 (n : Nat) (x1 : Int32) (x2 : Int32) (S : HS) : Option HS :=
  (if x1 = 0 then
  f_M_begin_b81 n x1 x2 S
  else
  ob (f_M_is n 357 S) fun r11 =>
  (if r11 = 0 then
  f_M_begin_b81 n x1 x2 S
  else
  ob2 (f_M_make (2 : Int32) x2 S) fun r13 S12 =>
  lt r13 fun v14 =>
  some S12))
def f_M_begin_b32 (n : Nat) (x1 : Int32) (x2 : Int32) (S : HS) : Option HS :=
  (if x1 = 0 then
  f_M_begin_b58 n x1 x2 S
  else
  ob (f_M_isOwn n S) fun r6 =>
  (if r6 = 0 then
  f_M_begin_b58 n x1 x2 S
  else
  ob2 (f_M_make (1 : Int32) x2 S) fun r8 S7 =>
  lt r8 fun v9 =>
  ob (f_M_setName v9 S7) fun S10 =>
  some S10))
def f_M_begin (n : Nat) (x1 : Int32) (x2 : Int32) (S : HS) : Option HS :=
  (if (gF S 200 6) = (3 : Int32) then
  (if x1 = 0 then
  f_M_begin_b32 n x1 x2 S
  else
  ob2 (f_M_make (0 : Int32) x2 S) fun r2 S1 =>
  lt r2 fun v3 =>
  gd (inR v3 8192) <|
  lt (sF S1 226 v3.toNatClampNeg (gF S1 200 9)) fun S5 =>
  some S5)
  else
  f_M_begin_b32 n x1 x2 S)
section WK
variable {p : Program} {l : Launch} {e : Env} {s : State} {m : MethodId} {args : Array Value} {below : List Frame} {meth : Method} {c : Code} {D : va_G} {cA : Nat → ClassId} {z : Nat} {ac : Nat → Nat} {ad : Nat → Nat}
set_option maxHeartbeats 4000000 in
set_option maxRecDepth 100000 in
theorem w_M_begin_150 (C : CB p s m args c meth b_M_begin "TwoLevelParserModel" 5 none D cA z ac) (n : Nat) {S' : HS} (x3 : Int32) (x4 : Int32) (y0 : Int32) {S : HS} {H : Heap} {locs : List Loc} {ls : Array Slot} (h : f_M_begin_b150 n x3 x4 y0 S = some S') (hW : HW D cA z ac E1 ad S H) (hS : va_S (zA z) s.heap H locs) (hl : lv_has ls 5 [(0, .ref (ad 200)), (3, .int (x3)), (4, .int (x4))]) : GW p l e 8 s m args below meth c D cA z ac E1 ad none S' H locs (F0 m 150 ls [.int (y0), .ref (ad 200)]) := by
  obtain ⟨⟨hx, hb, hml, hown, hts⟩, hK, hr, hlo⟩ := id C
  unfold f_M_begin_b150 at h
  obtain ⟨r25, S24, eS24, h⟩ := ob2_some h
  refine hx_V (i := 200) (As := [.int (y0)]) (rest := []) C hW hS (s_M_must y0 eS24) km_M_213 kv_M_must ke_M_must kn_M kw_M_must kd_M_must (hW.fx 200 rfl) rfl q_M rfl ⟨by decide, by decide⟩ ⟨Nat.zero_le _, Nat.zero_le _⟩ rfl hl.1 rfl (Nat.le_of_ble_eq_true rfl) d_M_begin_150 (fun H locs hW hS => ?_)
  refine lv_if_eq (tgt := 169) hx hb d_M_begin_153 (by decide) (fun c153 => ?_) (fun c153 => ?_)
  · have h := ite_t c153 h
    have h := Option.some.inj h
    subst h
    exact he_v C hW hS d_M_begin_169
  · have h := ite_f c153 h
    refine lv_aload_n hx hb d_M_begin_156 rfl (lv_at hl 0 rfl) ?_
    refine hg_r (j := 220) C hW 200 20 (hW.fx 200 rfl) rfl q_M (by decide) rfl (hW.fn (E := E1) (i := 200) (k := 20) rfl) (lkF C kf_M_43) d_M_begin_157 ?_
    refine lv_iload_n hx hb d_M_begin_160 rfl (lv_at hl 1 rfl) ?_
    refine lv_iload hx hb d_M_begin_161 (lv_at hl 2 rfl) ?_
    obtain ⟨g26, h⟩ := gd_some h
    obtain ⟨S27, eS27, h⟩ := lt_some h
    refine hs_i C hW hS 220 (hW.fx 220 rfl) rfl rfl g26 eS27 d_M_begin_163 (fun H locs hW hS => ?_)
    refine lv_aload_n hx hb d_M_begin_164 rfl (lv_at hl 0 rfl) ?_
    refine lv_iload_n hx hb d_M_begin_165 rfl (lv_at hl 1 rfl) ?_
    obtain ⟨S28, eS28, h⟩ := ob_some h
    refine hx_V (i := 200) (As := [.int (x3)]) (rest := []) C hW hS (s_M_expect x3 eS28) km_M_235 kv_M_expect ke_M_expect kn_M kw_M_expect kd_M_expect (hW.fx 200 rfl) rfl q_M rfl ⟨by decide, by decide⟩ ⟨Nat.zero_le _, Nat.zero_le _⟩ rfl hl.1 rfl (Nat.le_of_ble_eq_true rfl) d_M_begin_166 (fun H locs hW hS => ?_)
    have h := Option.some.inj h
    subst h
    exact he_v C hW hS d_M_begin_169
set_option maxHeartbeats 4000000 in
set_option maxRecDepth 100000 in
theorem w_M_begin_137 (C : CB p s m args c meth b_M_begin "TwoLevelParserModel" 5 none D cA z ac) (n : Nat) {S' : HS} (x3 : Int32) (y0 : Int32) {S : HS} {H : Heap} {locs : List Loc} {ls : Array Slot} (h : f_M_begin_b137 n x3 y0 S = some S') (hW : HW D cA z ac E1 ad S H) (hS : va_S (zA z) s.heap H locs) (hl : lv_has ls 5 [(0, .ref (ad 200)), (3, .int (x3))]) : GW p l e 8 s m args below meth c D cA z ac E1 ad none S' H locs (F0 m 137 ls [.int (y0)]) := by
  obtain ⟨⟨hx, hb, hml, hown, hts⟩, hK, hr, hlo⟩ := id C
  unfold f_M_begin_b137 at h
  obtain ⟨v23, ev23, h⟩ := lt_some h
  refine lt_i (lv' := [(4, .int (v23)), (0, .ref (ad 200)), (3, .int (x3))]) C d_M_begin_137 hl (by decide) ev23 rfl (fun ls hl => ?_)
  refine lv_aload_n hx hb d_M_begin_139 rfl (lv_at hl 1 rfl) ?_
  refine lv_iload hx hb d_M_begin_140 (lv_at hl 0 rfl) ?_
  refine lv_if_lt (tgt := 149) hx hb d_M_begin_142 (by decide) (fun c142 => ?_) (fun c142 => ?_)
  · have h := ite_t c142 h
    refine lv_iconst (v := 0) hx hb d_M_begin_149 (by decide) ?_
    exact w_M_begin_150 C n x3 v23 (0 : Int32) h hW hS (lv_sub hl [1, 2, 0] rfl)
  · have h := ite_f c142 h
    refine lv_iconst (v := 1) hx hb d_M_begin_145 (by decide) ?_
    refine lv_goto (tgt := 150) hx hb d_M_begin_146 (by decide) ?_
    exact w_M_begin_150 C n x3 v23 (1 : Int32) h hW hS (lv_sub hl [1, 2, 0] rfl)
set_option maxHeartbeats 4000000 in
set_option maxRecDepth 100000 in
theorem w_M_begin_94 (C : CB p s m args c meth b_M_begin "TwoLevelParserModel" 5 none D cA z ac) (n : Nat) {S' : HS} (x1 : Int32) (x2 : Int32) (y0 : Int32) {S : HS} {H : Heap} {locs : List Loc} {ls : Array Slot} (h : f_M_begin_b94 n x1 x2 y0 S = some S') (hW : HW D cA z ac E1 ad S H) (hS : va_S (zA z) s.heap H locs) (hl : lv_has ls 5 [(0, .ref (ad 200)), (1, .int (x1)), (2, .int (x2))]) : GW p l e 8 s m args below meth c D cA z ac E1 ad none S' H locs (F0 m 94 ls [.int (y0), .ref (ad 200)]) := by
  obtain ⟨⟨hx, hb, hml, hown, hts⟩, hK, hr, hlo⟩ := id C
  unfold f_M_begin_b94 at h
  obtain ⟨r16, S15, eS15, h⟩ := ob2_some h
  refine hx_V (i := 200) (As := [.int (y0)]) (rest := []) C hW hS (s_M_must y0 eS15) km_M_213 kv_M_must ke_M_must kn_M kw_M_must kd_M_must (hW.fx 200 rfl) rfl q_M rfl ⟨by decide, by decide⟩ ⟨Nat.zero_le _, Nat.zero_le _⟩ rfl hl.1 rfl (Nat.le_of_ble_eq_true rfl) d_M_begin_94 (fun H locs hW hS => ?_)
  refine lv_if_eq (tgt := 169) hx hb d_M_begin_97 (by decide) (fun c97 => ?_) (fun c97 => ?_)
  · have h := ite_t c97 h
    have h := Option.some.inj h
    subst h
    exact he_v C hW hS d_M_begin_169
  · have h := ite_f c97 h
    refine lv_aload_n hx hb d_M_begin_100 rfl (lv_at hl 0 rfl) ?_
    refine lv_iconst (v := 0) hx hb d_M_begin_101 (by decide) ?_
    refine lv_iload_n hx hb d_M_begin_102 rfl (lv_at hl 2 rfl) ?_
    obtain ⟨r18, S17, eS17, h⟩ := ob2_some h
    refine hx_V (i := 200) (As := [.int ((0 : Int32)), .int (x2)]) (rest := []) C hW hS (s_M_make (0 : Int32) x2 eS17) km_M_220 kv_M_make ke_M_make kn_M kw_M_make kd_M_make (hW.fx 200 rfl) rfl q_M rfl ⟨by decide, by decide⟩ ⟨Nat.zero_le _, Nat.zero_le _⟩ rfl hl.1 rfl (Nat.le_of_ble_eq_true rfl) d_M_begin_103 (fun H locs hW hS => ?_)
    obtain ⟨v19, ev19, h⟩ := lt_some h
    refine lt_i_n (lv' := [(3, .int (v19)), (0, .ref (ad 200)), (1, .int (x1)), (2, .int (x2))]) C d_M_begin_106 rfl hl (by decide) ev19 rfl (fun ls hl => ?_)
    refine lv_aload_n hx hb d_M_begin_107 rfl (lv_at hl 1 rfl) ?_
    obtain ⟨S20, eS20, h⟩ := ob_some h
    refine hx_V (i := 200) (As := []) (rest := []) C hW hS (s_M_next n eS20) km_M_232 kv_M_next ke_M_next kn_M kw_M_next kd_M_next (hW.fx 200 rfl) rfl q_M rfl ⟨by decide, by decide⟩ ⟨Nat.zero_le _, Nat.zero_le _⟩ rfl hl.1 rfl (Nat.le_of_ble_eq_true rfl) d_M_begin_108 (fun H locs hW hS => ?_)
    refine lv_aload_n hx hb d_M_begin_111 rfl (lv_at hl 1 rfl) ?_
    refine hg_i C hW 200 3 (hW.fx 200 rfl) rfl q_M (by decide) rfl (lkF C kf_M_83) d_M_begin_112 ?_
    refine lv_if_le (tgt := 122) hx hb d_M_begin_115 (by decide) (fun c115 => ?_) (fun c115 => ?_)
    · have h := ite_t c115 h
      refine lv_iload_n hx hb d_M_begin_122 rfl (lv_at hl 2 rfl) ?_
      refine lv_if_eq (tgt := 133) hx hb d_M_begin_123 (by decide) (fun c123 => ?_) (fun c123 => ?_)
      · have h := ite_t c123 h
        refine lv_aload_n hx hb d_M_begin_133 rfl (lv_at hl 1 rfl) ?_
        obtain ⟨r21, er21, h⟩ := ob_some h
        refine hx_V (i := 200) (As := []) (rest := []) C hW hS (s_M_changeableKind n er21) km_M_195 kv_M_changeableKind ke_M_changeableKind kn_M kw_M_changeableKind kd_M_changeableKind (hW.fx 200 rfl) rfl q_M rfl ⟨by decide, by decide⟩ ⟨Nat.zero_le _, Nat.zero_le _⟩ rfl hl.1 rfl (Nat.le_of_ble_eq_true rfl) d_M_begin_134 (fun H locs hW hS => ?_)
        exact w_M_begin_137 C n v19 r21 h hW hS (lv_sub hl [1, 0] rfl)
      · have h := ite_f c123 h
        refine lv_aload_n hx hb d_M_begin_126 rfl (lv_at hl 1 rfl) ?_
        obtain ⟨r22, er22, h⟩ := ob_some h
        refine hx_V (i := 200) (As := []) (rest := []) C hW hS (s_M_stableKind n er22) km_M_192 kv_M_stableKind ke_M_stableKind kn_M kw_M_stableKind kd_M_stableKind (hW.fx 200 rfl) rfl q_M rfl ⟨by decide, by decide⟩ ⟨Nat.zero_le _, Nat.zero_le _⟩ rfl hl.1 rfl (Nat.le_of_ble_eq_true rfl) d_M_begin_127 (fun H locs hW hS => ?_)
        refine lv_goto (tgt := 137) hx hb d_M_begin_130 (by decide) ?_
        exact w_M_begin_137 C n v19 r22 h hW hS (lv_sub hl [1, 0] rfl)
    · have h := ite_f c115 h
      refine lv_iconst (v := -1) hx hb d_M_begin_118 (by decide) ?_
      refine lv_goto (tgt := 137) hx hb d_M_begin_119 (by decide) ?_
      exact w_M_begin_137 C n v19 (-1 : Int32) h hW hS (lv_sub hl [1, 0] rfl)
set_option maxHeartbeats 4000000 in
set_option maxRecDepth 100000 in
theorem w_M_begin_81 (C : CB p s m args c meth b_M_begin "TwoLevelParserModel" 5 none D cA z ac) (n : Nat) {S' : HS} (x1 : Int32) (x2 : Int32) {S : HS} {H : Heap} {locs : List Loc} {ls : Array Slot} (h : f_M_begin_b81 n x1 x2 S = some S') (hW : HW D cA z ac E1 ad S H) (hS : va_S (zA z) s.heap H locs) (hl : lv_has ls 5 [(0, .ref (ad 200)), (1, .int (x1)), (2, .int (x2))]) : GW p l e 8 s m args below meth c D cA z ac E1 ad none S' H locs (F0 m 81 ls []) := by
  obtain ⟨⟨hx, hb, hml, hown, hts⟩, hK, hr, hlo⟩ := id C
  unfold f_M_begin_b81 at h
  refine lv_aload_n hx hb d_M_begin_81 rfl (lv_at hl 0 rfl) ?_
  refine lv_aload_n hx hb d_M_begin_82 rfl (lv_at hl 0 rfl) ?_
  refine hg_i C hW 200 6 (hW.fx 200 rfl) rfl q_M (by decide) rfl (lkF C kf_M_99) d_M_begin_83 ?_
  refine lv_if_ne (tgt := 93) hx hb d_M_begin_86 (by decide) (fun c86 => ?_) (fun c86 => ?_)
  · have h := ite_f c86 h
    refine lv_iconst (v := 0) hx hb d_M_begin_93 (by decide) ?_
    exact w_M_begin_94 C n x1 x2 (0 : Int32) h hW hS (lv_sub hl [0, 1, 2] rfl)
  · have h := ite_t c86 h
    refine lv_iconst (v := 1) hx hb d_M_begin_89 (by decide) ?_
    refine lv_goto (tgt := 94) hx hb d_M_begin_90 (by decide) ?_
    exact w_M_begin_94 C n x1 x2 (1 : Int32) h hW hS (lv_sub hl [0, 1, 2] rfl)
set_option maxHeartbeats 4000000 in
set_option maxRecDepth 100000 in
theorem w_M_begin_58 (C : CB p s m args c meth b_M_begin "TwoLevelParserModel" 5 none D cA z ac) (n : Nat) {S' : HS} (x1 : Int32) (x2 : Int32) {S : HS} {H : Heap} {locs : List Loc} {ls : Array Slot} (h : f_M_begin_b58 n x1 x2 S = some S') (hW : HW D cA z ac E1 ad S H) (hS : va_S (zA z) s.heap H locs) (hl : lv_has ls 5 [(0, .ref (ad 200)), (1, .int (x1)), (2, .int (x2))]) : GW p l e 8 s m args below meth c D cA z ac E1 ad none S' H locs (F0 m 58 ls []) := by
  obtain ⟨⟨hx, hb, hml, hown, hts⟩, hK, hr, hlo⟩ := id C
  unfold f_M_begin_b58 at h
  refine lv_iload_n hx hb d_M_begin_58 rfl (lv_at hl 1 rfl) ?_
  refine lv_if_eq (tgt := 81) hx hb d_M_begin_59 (by decide) (fun c59 => ?_) (fun c59 => ?_)
  · have h := ite_t c59 h
    exact w_M_begin_81 C n x1 x2 h hW hS (lv_sub hl [0, 1, 2] rfl)
  · have h := ite_f c59 h
    refine lv_aload_n hx hb d_M_begin_62 rfl (lv_at hl 0 rfl) ?_
    refine hc_s (i := 57) C hW rfl (by decide) rfl rfl d_M_begin_63 ?_
    obtain ⟨r11, er11, h⟩ := ob_some h
    refine hx_V (i := 200) (As := [.ref (ad 357)]) (rest := []) C hW hS (s_M_is n 357 er11) km_M_144 kv_M_is ke_M_is kn_M kw_M_is kd_M_is (hW.fx 200 rfl) rfl q_M rfl ⟨by decide, by decide⟩ ⟨Nat.zero_le _, Nat.zero_le _⟩ rfl hl.1 rfl (Nat.le_of_ble_eq_true rfl) d_M_begin_65 (fun H locs hW hS => ?_)
    refine lv_if_eq (tgt := 81) hx hb d_M_begin_68 (by decide) (fun c68 => ?_) (fun c68 => ?_)
    · have h := ite_t c68 h
      exact w_M_begin_81 C n x1 x2 h hW hS (lv_sub hl [0, 1, 2] rfl)
    · have h := ite_f c68 h
      refine lv_aload_n hx hb d_M_begin_71 rfl (lv_at hl 0 rfl) ?_
      refine lv_iconst (v := 2) hx hb d_M_begin_72 (by decide) ?_
      refine lv_iload_n hx hb d_M_begin_73 rfl (lv_at hl 2 rfl) ?_
      obtain ⟨r13, S12, eS12, h⟩ := ob2_some h
      refine hx_V (i := 200) (As := [.int ((2 : Int32)), .int (x2)]) (rest := []) C hW hS (s_M_make (2 : Int32) x2 eS12) km_M_220 kv_M_make ke_M_make kn_M kw_M_make kd_M_make (hW.fx 200 rfl) rfl q_M rfl ⟨by decide, by decide⟩ ⟨Nat.zero_le _, Nat.zero_le _⟩ rfl hl.1 rfl (Nat.le_of_ble_eq_true rfl) d_M_begin_74 (fun H locs hW hS => ?_)
      obtain ⟨v14, ev14, h⟩ := lt_some h
      refine lt_i_n (lv' := [(3, .int (v14)), (0, .ref (ad 200)), (1, .int (x1)), (2, .int (x2))]) C d_M_begin_77 rfl hl (by decide) ev14 rfl (fun ls hl => ?_)
      refine lv_goto (tgt := 169) hx hb d_M_begin_78 (by decide) ?_
      have h := Option.some.inj h
      subst h
      exact he_v C hW hS d_M_begin_169
set_option maxHeartbeats 4000000 in
set_option maxRecDepth 100000 in
theorem w_M_begin_32 (C : CB p s m args c meth b_M_begin "TwoLevelParserModel" 5 none D cA z ac) (n : Nat) {S' : HS} (x1 : Int32) (x2 : Int32) {S : HS} {H : Heap} {locs : List Loc} {ls : Array Slot} (h : f_M_begin_b32 n x1 x2 S = some S') (hW : HW D cA z ac E1 ad S H) (hS : va_S (zA z) s.heap H locs) (hl : lv_has ls 5 [(0, .ref (ad 200)), (1, .int (x1)), (2, .int (x2))]) : GW p l e 8 s m args below meth c D cA z ac E1 ad none S' H locs (F0 m 32 ls []) := by
  obtain ⟨⟨hx, hb, hml, hown, hts⟩, hK, hr, hlo⟩ := id C
  unfold f_M_begin_b32 at h
  refine lv_iload_n hx hb d_M_begin_32 rfl (lv_at hl 1 rfl) ?_
  refine lv_if_eq (tgt := 58) hx hb d_M_begin_33 (by decide) (fun c33 => ?_) (fun c33 => ?_)
  · have h := ite_t c33 h
    exact w_M_begin_58 C n x1 x2 h hW hS (lv_sub hl [0, 1, 2] rfl)
  · have h := ite_f c33 h
    refine lv_aload_n hx hb d_M_begin_36 rfl (lv_at hl 0 rfl) ?_
    obtain ⟨r6, er6, h⟩ := ob_some h
    refine hx_V (i := 200) (As := []) (rest := []) C hW hS (s_M_isOwn n er6) km_M_224 kv_M_isOwn ke_M_isOwn kn_M kw_M_isOwn kd_M_isOwn (hW.fx 200 rfl) rfl q_M rfl ⟨by decide, by decide⟩ ⟨Nat.zero_le _, Nat.zero_le _⟩ rfl hl.1 rfl (Nat.le_of_ble_eq_true rfl) d_M_begin_37 (fun H locs hW hS => ?_)
    refine lv_if_eq (tgt := 58) hx hb d_M_begin_40 (by decide) (fun c40 => ?_) (fun c40 => ?_)
    · have h := ite_t c40 h
      exact w_M_begin_58 C n x1 x2 h hW hS (lv_sub hl [0, 1, 2] rfl)
    · have h := ite_f c40 h
      refine lv_aload_n hx hb d_M_begin_43 rfl (lv_at hl 0 rfl) ?_
      refine lv_iconst (v := 1) hx hb d_M_begin_44 (by decide) ?_
      refine lv_iload_n hx hb d_M_begin_45 rfl (lv_at hl 2 rfl) ?_
      obtain ⟨r8, S7, eS7, h⟩ := ob2_some h
      refine hx_V (i := 200) (As := [.int ((1 : Int32)), .int (x2)]) (rest := []) C hW hS (s_M_make (1 : Int32) x2 eS7) km_M_220 kv_M_make ke_M_make kn_M kw_M_make kd_M_make (hW.fx 200 rfl) rfl q_M rfl ⟨by decide, by decide⟩ ⟨Nat.zero_le _, Nat.zero_le _⟩ rfl hl.1 rfl (Nat.le_of_ble_eq_true rfl) d_M_begin_46 (fun H locs hW hS => ?_)
      obtain ⟨v9, ev9, h⟩ := lt_some h
      refine lt_i_n (lv' := [(3, .int (v9)), (0, .ref (ad 200)), (1, .int (x1)), (2, .int (x2))]) C d_M_begin_49 rfl hl (by decide) ev9 rfl (fun ls hl => ?_)
      refine lv_aload_n hx hb d_M_begin_50 rfl (lv_at hl 1 rfl) ?_
      refine lv_iload_n hx hb d_M_begin_51 rfl (lv_at hl 0 rfl) ?_
      obtain ⟨S10, eS10, h⟩ := ob_some h
      refine hx_V (i := 200) (As := [.int (v9)]) (rest := []) C hW hS (s_M_setName v9 eS10) km_M_228 kv_M_setName ke_M_setName kn_M kw_M_setName kd_M_setName (hW.fx 200 rfl) rfl q_M rfl ⟨by decide, by decide⟩ ⟨Nat.zero_le _, Nat.zero_le _⟩ rfl hl.1 rfl (Nat.le_of_ble_eq_true rfl) d_M_begin_52 (fun H locs hW hS => ?_)
      refine lv_goto (tgt := 169) hx hb d_M_begin_55 (by decide) ?_
      have h := Option.some.inj h
      subst h
      exact he_v C hW hS d_M_begin_169
set_option maxHeartbeats 4000000 in
set_option maxRecDepth 100000 in
theorem s_M_begin (n : Nat) (x1 : Int32) (x2 : Int32) {S : HS} {S' : HS} (h : f_M_begin n x1 x2 S = some S') : Met l y_M_begin (.code y_M_begin b_M_begin 5 none :: lw_g) (rmD 8 0 0) (PcH D cA z ac E1 ad [.ref (ad 200), .int (x1), .int (x2)] S) (QN D cA z ac E1 ad none S') 0 0 (zA z) := by
  refine Met.ofH (own := "TwoLevelParserModel") (by decide) rfl (Nat.le_of_ble_eq_true rfl) ?_
  intro p e s m args below meth c H ls C hW hS hl
  have hl : lv_has ls 5 [(0, .ref (ad 200)), (1, .int (x1)), (2, .int (x2))] := hl
  obtain ⟨⟨hx, hb, hml, hown, hts⟩, hK, hr, hlo⟩ := id C
  unfold f_M_begin at h
  refine lv_aload_n hx hb d_M_begin_0 rfl (lv_at hl 0 rfl) ?_
  refine hg_i C hW 200 6 (hW.fx 200 rfl) rfl q_M (by decide) rfl (lkF C kf_M_99) d_M_begin_1 ?_
  refine lv_iconst (v := 3) hx hb d_M_begin_4 (by decide) ?_
  refine lv_icmp_ne (tgt := 32) hx hb d_M_begin_5 (by decide) (fun c5 => ?_) (fun c5 => ?_)
  · have h := ite_f c5 h
    exact w_M_begin_32 C n x1 x2 h hW hS (lv_sub hl [0, 1, 2] rfl)
  · have h := ite_t c5 h
    refine lv_iload_n hx hb d_M_begin_8 rfl (lv_at hl 1 rfl) ?_
    refine lv_if_eq (tgt := 32) hx hb d_M_begin_9 (by decide) (fun c9 => ?_) (fun c9 => ?_)
    · have h := ite_t c9 h
      exact w_M_begin_32 C n x1 x2 h hW hS (lv_sub hl [0, 1, 2] rfl)
    · have h := ite_f c9 h
      refine lv_aload_n hx hb d_M_begin_12 rfl (lv_at hl 0 rfl) ?_
      refine lv_iconst (v := 0) hx hb d_M_begin_13 (by decide) ?_
      refine lv_iload_n hx hb d_M_begin_14 rfl (lv_at hl 2 rfl) ?_
      obtain ⟨r2, S1, eS1, h⟩ := ob2_some h
      refine hx_V (i := 200) (As := [.int ((0 : Int32)), .int (x2)]) (rest := []) C hW hS (s_M_make (0 : Int32) x2 eS1) km_M_220 kv_M_make ke_M_make kn_M kw_M_make kd_M_make (hW.fx 200 rfl) rfl q_M rfl ⟨by decide, by decide⟩ ⟨Nat.zero_le _, Nat.zero_le _⟩ rfl hl.1 rfl (Nat.le_of_ble_eq_true rfl) d_M_begin_15 (fun H locs hW hS => ?_)
      obtain ⟨v3, ev3, h⟩ := lt_some h
      refine lt_i_n (lv' := [(3, .int (v3)), (0, .ref (ad 200)), (1, .int (x1)), (2, .int (x2))]) C d_M_begin_18 rfl hl (by decide) ev3 rfl (fun ls hl => ?_)
      refine lv_aload_n hx hb d_M_begin_19 rfl (lv_at hl 1 rfl) ?_
      refine hg_r (j := 226) C hW 200 26 (hW.fx 200 rfl) rfl q_M (by decide) rfl (hW.fn (E := E1) (i := 200) (k := 26) rfl) (lkF C kf_M_61) d_M_begin_20 ?_
      refine lv_iload_n hx hb d_M_begin_23 rfl (lv_at hl 0 rfl) ?_
      refine lv_aload_n hx hb d_M_begin_24 rfl (lv_at hl 1 rfl) ?_
      refine hg_i C hW 200 9 (hW.fx 200 rfl) rfl q_M (by decide) rfl (lkF C kf_M_129) d_M_begin_25 ?_
      obtain ⟨g4, h⟩ := gd_some h
      obtain ⟨S5, eS5, h⟩ := lt_some h
      refine hs_i C hW hS 226 (hW.fx 226 rfl) rfl rfl g4 eS5 d_M_begin_28 (fun H locs hW hS => ?_)
      refine lv_goto (tgt := 169) hx hb d_M_begin_29 (by decide) ?_
      have h := Option.some.inj h
      subst h
      exact he_v C hW hS d_M_begin_169
end WK
def f_M_step_b68 (n : Nat) (y0 : Int32) (y1 : Int32) (S : HS) : Option HS :=
  lt (sF S 200 32 (y1 - y0)) fun S37 =>
  some S37
def f_M_step_b63 (n : Nat) (y0 : Int32) (S : HS) : Option HS :=
  f_M_step_b68 n (2 : Int32) y0 S
def f_M_step_b139 (n : Nat) (x2 : Int32) (y0 : Int32) (S : HS) : Option HS :=
  ob (f_M_begin n y0 x2 S) fun S38 =>
  some S38
def f_M_step_b128 (n : Nat) (x1 : Int32) (x2 : Int32) (S : HS) : Option HS :=
  (if x1 = (1 : Int32) then
  f_M_step_b139 n x2 (1 : Int32) S
  else
  f_M_step_b139 n x2 (0 : Int32) S)
def f_M_step_b160 (n : Nat) (y0 : Int32) (S : HS) : Option HS :=
  ob2 (f_M_must y0 S) fun r26 S25 =>
  some S25
def f_M_step_b180 (n : Nat) (y0 : Int32) (S : HS) : Option HS :=
  ob2 (f_M_must y0 S) fun r28 S27 =>
  some S27
def f_M_step_b225 (n : Nat) (x2 : Int32) (S : HS) : Option HS :=
  ob (f_M_letBinds x2 S) fun S29 =>
  some S29
def f_M_step_b267 (n : Nat) (x2 : Int32) (y0 : Int32) (S : HS) : Option HS :=
  ob2 (f_M_must y0 S) fun r31 S30 =>
  (if r31 = 0 then
  some S30
  else
  gd (inR x2 8192) <|
  lt (sL S30 228 x2.toNatClampNeg (gL S30 200 8)) fun S33 =>
  gd (inR x2 8192) <|
  lt (sF S33 224 x2.toNatClampNeg (gF S33 200 7)) fun S35 =>
  ob (f_M_bind S35) fun S36 =>
  some S36)
def f_M_step_b266 (n : Nat) (x2 : Int32) (S : HS) : Option HS :=
  f_M_step_b267 n x2 (0 : Int32) S
def f_M_step (n : Nat) (S : HS) : Option HS :=
  lt (sF S 200 31 ((gF S 200 31) - (1 : Int32))) fun S1 =>
  gd (inR (gF S1 200 31) 33000) <|
  lt (gF S1 229 (gF S1 200 31).toNatClampNeg) fun v3 =>
  gd (inR (gF S1 200 31) 33000) <|
  lt (gF S1 230 (gF S1 200 31).toNatClampNeg) fun v5 =>
  (if v3 = (8 : Int32) then
  gd (inR v5 8192) <|
  (if (gF S1 220 v5.toNatClampNeg) = (12 : Int32) then
  f_M_step_b63 n (gF S1 200 32) S1
  else
  gd (inR v5 8192) <|
  (if (gF S1 220 v5.toNatClampNeg) = (22 : Int32) then
  f_M_step_b63 n (gF S1 200 32) S1
  else
  f_M_step_b68 n (1 : Int32) (gF S1 200 32) S1))
  else
  ob (f_M_next n S1) fun S6 =>
  (if (gF S6 200 3) ≤ 0 then
  (if v3 = (1 : Int32) then
  f_M_step_b128 n v3 v5 S6
  else
  (if v3 = (2 : Int32) then
  f_M_step_b128 n v3 v5 S6
  else
  (if v3 = (3 : Int32) then
  (if (gF S6 200 6) = (1 : Int32) then
  f_M_step_b160 n (1 : Int32) S6
  else
  f_M_step_b160 n (0 : Int32) S6)
  else
  (if v3 = (4 : Int32) then
  (if (gF S6 200 6) = 0 then
  f_M_step_b180 n (1 : Int32) S6
  else
  f_M_step_b180 n (0 : Int32) S6)
  else
  (if v3 = (5 : Int32) then
  ob (f_M_isOwn n S6) fun r7 =>
  ob2 (f_M_must r7 S6) fun r9 S8 =>
  (if r9 = 0 then
  some S8
  else
  ob (f_M_setName v5 S8) fun S10 =>
  gd (inR v5 8192) <|
  (if (gF S10 220 v5.toNatClampNeg) = (11 : Int32) then
  f_M_step_b225 n v5 S10
  else
  gd (inR v5 8192) <|
  (if (gF S10 220 v5.toNatClampNeg) = (21 : Int32) then
  f_M_step_b225 n v5 S10
  else
  ob (f_M_bind S10) fun S13 =>
  some S13)))
  else
  (if v3 = (6 : Int32) then
  ob (f_M_isOwn n S6) fun r14 =>
  (if r14 = 0 then
  f_M_step_b266 n v5 S6
  else
  gd (inR v5 8192) <|
  (if (lg_cmp (gL S6 200 8) (gL S6 227 v5.toNatClampNeg)) = 0 then
  f_M_step_b266 n v5 S6
  else
  f_M_step_b267 n v5 (1 : Int32) S6))
  else
  (if v3 = (7 : Int32) then
  (if (gF S6 200 6) = (1 : Int32) then
  lt (sF S6 200 31 ((gF S6 200 31) - (1 : Int32))) fun S16 =>
  some S16
  else
  ob (f_M_push (7 : Int32) v5 S6) fun S17 =>
  ob (f_M_begin n (1 : Int32) v5 S17) fun S18 =>
  some S18)
  else
  ob (f_M_isOwn n S6) fun r19 =>
  ob2 (f_M_must r19 S6) fun r21 S20 =>
  (if r21 = 0 then
  some S20
  else
  ob (f_M_setName v5 S20) fun S22 =>
  some S22))))))))
  else
  some S6))
section WK
variable {p : Program} {l : Launch} {e : Env} {s : State} {m : MethodId} {args : Array Value} {below : List Frame} {meth : Method} {c : Code} {D : va_G} {cA : Nat → ClassId} {z : Nat} {ac : Nat → Nat} {ad : Nat → Nat}
set_option maxHeartbeats 4000000 in
set_option maxRecDepth 100000 in
theorem w_M_step_68 (C : CB p s m args c meth b_M_step "TwoLevelParserModel" 3 none D cA z ac) (n : Nat) {S' : HS} (y0 : Int32) (y1 : Int32) {S : HS} {H : Heap} {locs : List Loc} {ls : Array Slot} (h : f_M_step_b68 n y0 y1 S = some S') (hW : HW D cA z ac E1 ad S H) (hS : va_S (zA z) s.heap H locs) (hl : lv_has ls 3 []) : GW p l e 9 s m args below meth c D cA z ac E1 ad none S' H locs (F0 m 68 ls [.int (y0), .int (y1), .ref (ad 200)]) := by
  obtain ⟨⟨hx, hb, hml, hown, hts⟩, hK, hr, hlo⟩ := id C
  unfold f_M_step_b68 at h
  refine lv_isub hx hb d_M_step_68 ?_
  obtain ⟨S37, eS37, h⟩ := lt_some h
  refine hp_i C hW hS 200 32 (hW.fx 200 rfl) rfl q_M (by decide) rfl rfl rfl (lkF C kf_M_210) eS37 d_M_step_69 (fun H locs hW hS => ?_)
  have h := Option.some.inj h
  subst h
  exact he_v C hW hS d_M_step_72
set_option maxHeartbeats 4000000 in
set_option maxRecDepth 100000 in
theorem w_M_step_63 (C : CB p s m args c meth b_M_step "TwoLevelParserModel" 3 none D cA z ac) (n : Nat) {S' : HS} (y0 : Int32) {S : HS} {H : Heap} {locs : List Loc} {ls : Array Slot} (h : f_M_step_b63 n y0 S = some S') (hW : HW D cA z ac E1 ad S H) (hS : va_S (zA z) s.heap H locs) (hl : lv_has ls 3 []) : GW p l e 9 s m args below meth c D cA z ac E1 ad none S' H locs (F0 m 63 ls [.int (y0), .ref (ad 200)]) := by
  obtain ⟨⟨hx, hb, hml, hown, hts⟩, hK, hr, hlo⟩ := id C
  unfold f_M_step_b63 at h
  refine lv_iconst (v := 2) hx hb d_M_step_63 (by decide) ?_
  refine lv_goto (tgt := 68) hx hb d_M_step_64 (by decide) ?_
  exact w_M_step_68 C n (2 : Int32) y0 h hW hS (lv_sub hl [] rfl)
set_option maxHeartbeats 4000000 in
set_option maxRecDepth 100000 in
theorem w_M_step_139 (C : CB p s m args c meth b_M_step "TwoLevelParserModel" 3 none D cA z ac) (n : Nat) {S' : HS} (x2 : Int32) (y0 : Int32) {S : HS} {H : Heap} {locs : List Loc} {ls : Array Slot} (h : f_M_step_b139 n x2 y0 S = some S') (hW : HW D cA z ac E1 ad S H) (hS : va_S (zA z) s.heap H locs) (hl : lv_has ls 3 [(2, .int (x2))]) : GW p l e 9 s m args below meth c D cA z ac E1 ad none S' H locs (F0 m 139 ls [.int (y0), .ref (ad 200)]) := by
  obtain ⟨⟨hx, hb, hml, hown, hts⟩, hK, hr, hlo⟩ := id C
  unfold f_M_step_b139 at h
  refine lv_iload_n hx hb d_M_step_139 rfl (lv_at hl 0 rfl) ?_
  obtain ⟨S38, eS38, h⟩ := ob_some h
  refine hx_V (i := 200) (As := [.int (y0), .int (x2)]) (rest := []) C hW hS (s_M_begin n y0 x2 eS38) km_M_238 kv_M_begin ke_M_begin kn_M kw_M_begin kd_M_begin (hW.fx 200 rfl) rfl q_M rfl ⟨by decide, by decide⟩ ⟨Nat.zero_le _, Nat.zero_le _⟩ rfl hl.1 rfl (Nat.le_of_ble_eq_true rfl) d_M_step_140 (fun H locs hW hS => ?_)
  refine lv_goto (tgt := 353) hx hb d_M_step_143 (by decide) ?_
  have h := Option.some.inj h
  subst h
  exact he_v C hW hS d_M_step_353
set_option maxHeartbeats 4000000 in
set_option maxRecDepth 100000 in
theorem w_M_step_128 (C : CB p s m args c meth b_M_step "TwoLevelParserModel" 3 none D cA z ac) (n : Nat) {S' : HS} (x1 : Int32) (x2 : Int32) {S : HS} {H : Heap} {locs : List Loc} {ls : Array Slot} (h : f_M_step_b128 n x1 x2 S = some S') (hW : HW D cA z ac E1 ad S H) (hS : va_S (zA z) s.heap H locs) (hl : lv_has ls 3 [(0, .ref (ad 200)), (1, .int (x1)), (2, .int (x2))]) : GW p l e 9 s m args below meth c D cA z ac E1 ad none S' H locs (F0 m 128 ls []) := by
  obtain ⟨⟨hx, hb, hml, hown, hts⟩, hK, hr, hlo⟩ := id C
  unfold f_M_step_b128 at h
  refine lv_aload_n hx hb d_M_step_128 rfl (lv_at hl 0 rfl) ?_
  refine lv_iload_n hx hb d_M_step_129 rfl (lv_at hl 1 rfl) ?_
  refine lv_iconst (v := 1) hx hb d_M_step_130 (by decide) ?_
  refine lv_icmp_ne (tgt := 138) hx hb d_M_step_131 (by decide) (fun c131 => ?_) (fun c131 => ?_)
  · have h := ite_f c131 h
    refine lv_iconst (v := 0) hx hb d_M_step_138 (by decide) ?_
    exact w_M_step_139 C n x2 (0 : Int32) h hW hS (lv_sub hl [2] rfl)
  · have h := ite_t c131 h
    refine lv_iconst (v := 1) hx hb d_M_step_134 (by decide) ?_
    refine lv_goto (tgt := 139) hx hb d_M_step_135 (by decide) ?_
    exact w_M_step_139 C n x2 (1 : Int32) h hW hS (lv_sub hl [2] rfl)
set_option maxHeartbeats 4000000 in
set_option maxRecDepth 100000 in
theorem w_M_step_160 (C : CB p s m args c meth b_M_step "TwoLevelParserModel" 3 none D cA z ac) (n : Nat) {S' : HS} (y0 : Int32) {S : HS} {H : Heap} {locs : List Loc} {ls : Array Slot} (h : f_M_step_b160 n y0 S = some S') (hW : HW D cA z ac E1 ad S H) (hS : va_S (zA z) s.heap H locs) (hl : lv_has ls 3 []) : GW p l e 9 s m args below meth c D cA z ac E1 ad none S' H locs (F0 m 160 ls [.int (y0), .ref (ad 200)]) := by
  obtain ⟨⟨hx, hb, hml, hown, hts⟩, hK, hr, hlo⟩ := id C
  unfold f_M_step_b160 at h
  obtain ⟨r26, S25, eS25, h⟩ := ob2_some h
  refine hx_V (i := 200) (As := [.int (y0)]) (rest := []) C hW hS (s_M_must y0 eS25) km_M_213 kv_M_must ke_M_must kn_M kw_M_must kd_M_must (hW.fx 200 rfl) rfl q_M rfl ⟨by decide, by decide⟩ ⟨Nat.zero_le _, Nat.zero_le _⟩ rfl hl.1 rfl (Nat.le_of_ble_eq_true rfl) d_M_step_160 (fun H locs hW hS => ?_)
  refine lv_pop hx hb d_M_step_163 rfl ?_
  refine lv_goto (tgt := 353) hx hb d_M_step_164 (by decide) ?_
  have h := Option.some.inj h
  subst h
  exact he_v C hW hS d_M_step_353
set_option maxHeartbeats 4000000 in
set_option maxRecDepth 100000 in
theorem w_M_step_180 (C : CB p s m args c meth b_M_step "TwoLevelParserModel" 3 none D cA z ac) (n : Nat) {S' : HS} (y0 : Int32) {S : HS} {H : Heap} {locs : List Loc} {ls : Array Slot} (h : f_M_step_b180 n y0 S = some S') (hW : HW D cA z ac E1 ad S H) (hS : va_S (zA z) s.heap H locs) (hl : lv_has ls 3 []) : GW p l e 9 s m args below meth c D cA z ac E1 ad none S' H locs (F0 m 180 ls [.int (y0), .ref (ad 200)]) := by
  obtain ⟨⟨hx, hb, hml, hown, hts⟩, hK, hr, hlo⟩ := id C
  unfold f_M_step_b180 at h
  obtain ⟨r28, S27, eS27, h⟩ := ob2_some h
  refine hx_V (i := 200) (As := [.int (y0)]) (rest := []) C hW hS (s_M_must y0 eS27) km_M_213 kv_M_must ke_M_must kn_M kw_M_must kd_M_must (hW.fx 200 rfl) rfl q_M rfl ⟨by decide, by decide⟩ ⟨Nat.zero_le _, Nat.zero_le _⟩ rfl hl.1 rfl (Nat.le_of_ble_eq_true rfl) d_M_step_180 (fun H locs hW hS => ?_)
  refine lv_pop hx hb d_M_step_183 rfl ?_
  refine lv_goto (tgt := 353) hx hb d_M_step_184 (by decide) ?_
  have h := Option.some.inj h
  subst h
  exact he_v C hW hS d_M_step_353
set_option maxHeartbeats 4000000 in
set_option maxRecDepth 100000 in
theorem w_M_step_225 (C : CB p s m args c meth b_M_step "TwoLevelParserModel" 3 none D cA z ac) (n : Nat) {S' : HS} (x2 : Int32) {S : HS} {H : Heap} {locs : List Loc} {ls : Array Slot} (h : f_M_step_b225 n x2 S = some S') (hW : HW D cA z ac E1 ad S H) (hS : va_S (zA z) s.heap H locs) (hl : lv_has ls 3 [(0, .ref (ad 200)), (2, .int (x2))]) : GW p l e 9 s m args below meth c D cA z ac E1 ad none S' H locs (F0 m 225 ls []) := by
  obtain ⟨⟨hx, hb, hml, hown, hts⟩, hK, hr, hlo⟩ := id C
  unfold f_M_step_b225 at h
  refine lv_aload_n hx hb d_M_step_225 rfl (lv_at hl 0 rfl) ?_
  refine lv_iload_n hx hb d_M_step_226 rfl (lv_at hl 1 rfl) ?_
  obtain ⟨S29, eS29, h⟩ := ob_some h
  refine hx_V (i := 200) (As := [.int (x2)]) (rest := []) C hW hS (s_M_letBinds x2 eS29) km_M_242 kv_M_letBinds ke_M_letBinds kn_M kw_M_letBinds kd_M_letBinds (hW.fx 200 rfl) rfl q_M rfl ⟨by decide, by decide⟩ ⟨Nat.zero_le _, Nat.zero_le _⟩ rfl hl.1 rfl (Nat.le_of_ble_eq_true rfl) d_M_step_227 (fun H locs hW hS => ?_)
  refine lv_goto (tgt := 353) hx hb d_M_step_230 (by decide) ?_
  have h := Option.some.inj h
  subst h
  exact he_v C hW hS d_M_step_353
set_option maxHeartbeats 4000000 in
set_option maxRecDepth 100000 in
theorem w_M_step_267 (C : CB p s m args c meth b_M_step "TwoLevelParserModel" 3 none D cA z ac) (n : Nat) {S' : HS} (x2 : Int32) (y0 : Int32) {S : HS} {H : Heap} {locs : List Loc} {ls : Array Slot} (h : f_M_step_b267 n x2 y0 S = some S') (hW : HW D cA z ac E1 ad S H) (hS : va_S (zA z) s.heap H locs) (hl : lv_has ls 3 [(0, .ref (ad 200)), (2, .int (x2))]) : GW p l e 9 s m args below meth c D cA z ac E1 ad none S' H locs (F0 m 267 ls [.int (y0), .ref (ad 200)]) := by
  obtain ⟨⟨hx, hb, hml, hown, hts⟩, hK, hr, hlo⟩ := id C
  unfold f_M_step_b267 at h
  obtain ⟨r31, S30, eS30, h⟩ := ob2_some h
  refine hx_V (i := 200) (As := [.int (y0)]) (rest := []) C hW hS (s_M_must y0 eS30) km_M_213 kv_M_must ke_M_must kn_M kw_M_must kd_M_must (hW.fx 200 rfl) rfl q_M rfl ⟨by decide, by decide⟩ ⟨Nat.zero_le _, Nat.zero_le _⟩ rfl hl.1 rfl (Nat.le_of_ble_eq_true rfl) d_M_step_267 (fun H locs hW hS => ?_)
  refine lv_if_eq (tgt := 353) hx hb d_M_step_270 (by decide) (fun c270 => ?_) (fun c270 => ?_)
  · have h := ite_t c270 h
    have h := Option.some.inj h
    subst h
    exact he_v C hW hS d_M_step_353
  · have h := ite_f c270 h
    refine lv_aload_n hx hb d_M_step_273 rfl (lv_at hl 0 rfl) ?_
    refine hg_r (j := 228) C hW 200 28 (hW.fx 200 rfl) rfl q_M (by decide) rfl (hW.fn (E := E1) (i := 200) (k := 28) rfl) (lkF C kf_M_67) d_M_step_274 ?_
    refine lv_iload_n hx hb d_M_step_277 rfl (lv_at hl 1 rfl) ?_
    refine lv_aload_n hx hb d_M_step_278 rfl (lv_at hl 0 rfl) ?_
    refine hg_l C hW 200 8 (hW.fx 200 rfl) rfl q_M (by decide) rfl (lkF C kf_M_115) d_M_step_279 ?_
    obtain ⟨g32, h⟩ := gd_some h
    obtain ⟨S33, eS33, h⟩ := lt_some h
    refine hs_l C hW hS 228 (hW.fx 228 rfl) rfl rfl g32 eS33 d_M_step_282 (fun H locs hW hS => ?_)
    refine lv_aload_n hx hb d_M_step_283 rfl (lv_at hl 0 rfl) ?_
    refine hg_r (j := 224) C hW 200 24 (hW.fx 200 rfl) rfl q_M (by decide) rfl (hW.fn (E := E1) (i := 200) (k := 24) rfl) (lkF C kf_M_55) d_M_step_284 ?_
    refine lv_iload_n hx hb d_M_step_287 rfl (lv_at hl 1 rfl) ?_
    refine lv_aload_n hx hb d_M_step_288 rfl (lv_at hl 0 rfl) ?_
    refine hg_i C hW 200 7 (hW.fx 200 rfl) rfl q_M (by decide) rfl (lkF C kf_M_96) d_M_step_289 ?_
    obtain ⟨g34, h⟩ := gd_some h
    obtain ⟨S35, eS35, h⟩ := lt_some h
    refine hs_i C hW hS 224 (hW.fx 224 rfl) rfl rfl g34 eS35 d_M_step_292 (fun H locs hW hS => ?_)
    refine lv_aload_n hx hb d_M_step_293 rfl (lv_at hl 0 rfl) ?_
    obtain ⟨S36, eS36, h⟩ := ob_some h
    refine hx_V (i := 200) (As := []) (rest := []) C hW hS (s_M_bind eS36) km_M_245 kv_M_bind ke_M_bind kn_M kw_M_bind kd_M_bind (hW.fx 200 rfl) rfl q_M rfl ⟨by decide, by decide⟩ ⟨Nat.zero_le _, Nat.zero_le _⟩ rfl hl.1 rfl (Nat.le_of_ble_eq_true rfl) d_M_step_294 (fun H locs hW hS => ?_)
    refine lv_goto (tgt := 353) hx hb d_M_step_297 (by decide) ?_
    have h := Option.some.inj h
    subst h
    exact he_v C hW hS d_M_step_353
set_option maxHeartbeats 4000000 in
set_option maxRecDepth 100000 in
theorem w_M_step_266 (C : CB p s m args c meth b_M_step "TwoLevelParserModel" 3 none D cA z ac) (n : Nat) {S' : HS} (x2 : Int32) {S : HS} {H : Heap} {locs : List Loc} {ls : Array Slot} (h : f_M_step_b266 n x2 S = some S') (hW : HW D cA z ac E1 ad S H) (hS : va_S (zA z) s.heap H locs) (hl : lv_has ls 3 [(0, .ref (ad 200)), (2, .int (x2))]) : GW p l e 9 s m args below meth c D cA z ac E1 ad none S' H locs (F0 m 266 ls [.ref (ad 200)]) := by
  obtain ⟨⟨hx, hb, hml, hown, hts⟩, hK, hr, hlo⟩ := id C
  unfold f_M_step_b266 at h
  refine lv_iconst (v := 0) hx hb d_M_step_266 (by decide) ?_
  exact w_M_step_267 C n x2 (0 : Int32) h hW hS (lv_sub hl [0, 1] rfl)
set_option maxHeartbeats 4000000 in
set_option maxRecDepth 100000 in
theorem s_M_step (n : Nat) {S : HS} {S' : HS} (h : f_M_step n S = some S') : Met l y_M_step (.code y_M_step b_M_step 3 none :: lw_g) (rmD 9 0 0) (PcH D cA z ac E1 ad [.ref (ad 200)] S) (QN D cA z ac E1 ad none S') 0 0 (zA z) := by
  refine Met.ofH (own := "TwoLevelParserModel") (by decide) rfl (Nat.le_of_ble_eq_true rfl) ?_
  intro p e s m args below meth c H ls C hW hS hl
  have hl : lv_has ls 3 [(0, .ref (ad 200))] := hl
  obtain ⟨⟨hx, hb, hml, hown, hts⟩, hK, hr, hlo⟩ := id C
  unfold f_M_step at h
  refine lv_aload_n hx hb d_M_step_0 rfl (lv_at hl 0 rfl) ?_
  refine lv_dup hx hb d_M_step_1 rfl ?_
  refine hg_i C hW 200 31 (hW.fx 200 rfl) rfl q_M (by decide) rfl (lkF C kf_M_204) d_M_step_2 ?_
  refine lv_iconst (v := 1) hx hb d_M_step_5 (by decide) ?_
  refine lv_isub hx hb d_M_step_6 ?_
  obtain ⟨S1, eS1, h⟩ := lt_some h
  refine hp_i C hW hS 200 31 (hW.fx 200 rfl) rfl q_M (by decide) rfl rfl rfl (lkF C kf_M_204) eS1 d_M_step_7 (fun H locs hW hS => ?_)
  refine lv_aload_n hx hb d_M_step_10 rfl (lv_at hl 0 rfl) ?_
  refine hg_r (j := 229) C hW 200 29 (hW.fx 200 rfl) rfl q_M (by decide) rfl (hW.fn (E := E1) (i := 200) (k := 29) rfl) (lkF C kf_M_71) d_M_step_11 ?_
  refine lv_aload_n hx hb d_M_step_14 rfl (lv_at hl 0 rfl) ?_
  refine hg_i C hW 200 31 (hW.fx 200 rfl) rfl q_M (by decide) rfl (lkF C kf_M_204) d_M_step_15 ?_
  obtain ⟨g2, h⟩ := gd_some h
  refine ha_b C hW 229 (hW.fx 229 rfl) rfl rfl g2 d_M_step_18 ?_
  obtain ⟨v3, ev3, h⟩ := lt_some h
  refine lt_i_n (lv' := [(1, .int (v3)), (0, .ref (ad 200))]) C d_M_step_19 rfl hl (by decide) ev3 rfl (fun ls hl => ?_)
  refine lv_aload_n hx hb d_M_step_20 rfl (lv_at hl 1 rfl) ?_
  refine hg_r (j := 230) C hW 200 30 (hW.fx 200 rfl) rfl q_M (by decide) rfl (hW.fn (E := E1) (i := 200) (k := 30) rfl) (lkF C kf_M_74) d_M_step_21 ?_
  refine lv_aload_n hx hb d_M_step_24 rfl (lv_at hl 1 rfl) ?_
  refine hg_i C hW 200 31 (hW.fx 200 rfl) rfl q_M (by decide) rfl (lkF C kf_M_204) d_M_step_25 ?_
  obtain ⟨g4, h⟩ := gd_some h
  refine ha_i C hW 230 (hW.fx 230 rfl) rfl rfl g4 d_M_step_28 ?_
  obtain ⟨v5, ev5, h⟩ := lt_some h
  refine lt_i_n (lv' := [(2, .int (v5)), (1, .int (v3)), (0, .ref (ad 200))]) C d_M_step_29 rfl hl (by decide) ev5 rfl (fun ls hl => ?_)
  refine lv_iload_n hx hb d_M_step_30 rfl (lv_at hl 1 rfl) ?_
  refine lv_bipush (v := 8) hx hb d_M_step_31 (by decide) ?_
  refine lv_icmp_ne (tgt := 73) hx hb d_M_step_33 (by decide) (fun c33 => ?_) (fun c33 => ?_)
  · have h := ite_f c33 h
    refine lv_aload_n hx hb d_M_step_73 rfl (lv_at hl 2 rfl) ?_
    obtain ⟨S6, eS6, h⟩ := ob_some h
    refine hx_V (i := 200) (As := []) (rest := []) C hW hS (s_M_next n eS6) km_M_232 kv_M_next ke_M_next kn_M kw_M_next kd_M_next (hW.fx 200 rfl) rfl q_M rfl ⟨by decide, by decide⟩ ⟨Nat.zero_le _, Nat.zero_le _⟩ rfl hl.1 rfl (Nat.le_of_ble_eq_true rfl) d_M_step_74 (fun H locs hW hS => ?_)
    refine lv_aload_n hx hb d_M_step_77 rfl (lv_at hl 2 rfl) ?_
    refine hg_i C hW 200 3 (hW.fx 200 rfl) rfl q_M (by decide) rfl (lkF C kf_M_83) d_M_step_78 ?_
    refine lv_if_le (tgt := 85) hx hb d_M_step_81 (by decide) (fun c81 => ?_) (fun c81 => ?_)
    · have h := ite_t c81 h
      refine lv_iload_n hx hb d_M_step_85 rfl (lv_at hl 1 rfl) ?_
      by_cases c86_1 : v3 = (1 : Int32)
      · have h := ite_t c86_1 h
        refine lv_tableIn (off := 42) (tgt := 128) hx hb d_M_step_86 (by rw [c86_1]; decide) (by rw [c86_1]; decide) (by rw [c86_1]; rfl) (by decide) ?_
        exact w_M_step_128 C n v3 v5 h hW hS (lv_sub hl [2, 1, 0] rfl)
      · have h := ite_f c86_1 h
        by_cases c86_2 : v3 = (2 : Int32)
        · have h := ite_t c86_2 h
          refine lv_tableIn (off := 42) (tgt := 128) hx hb d_M_step_86 (by rw [c86_2]; decide) (by rw [c86_2]; decide) (by rw [c86_2]; rfl) (by decide) ?_
          exact w_M_step_128 C n v3 v5 h hW hS (lv_sub hl [2, 1, 0] rfl)
        · have h := ite_f c86_2 h
          by_cases c86_3 : v3 = (3 : Int32)
          · have h := ite_t c86_3 h
            refine lv_tableIn (off := 60) (tgt := 146) hx hb d_M_step_86 (by rw [c86_3]; decide) (by rw [c86_3]; decide) (by rw [c86_3]; rfl) (by decide) ?_
            refine lv_aload_n hx hb d_M_step_146 rfl (lv_at hl 2 rfl) ?_
            refine lv_aload_n hx hb d_M_step_147 rfl (lv_at hl 2 rfl) ?_
            refine hg_i C hW 200 6 (hW.fx 200 rfl) rfl q_M (by decide) rfl (lkF C kf_M_99) d_M_step_148 ?_
            refine lv_iconst (v := 1) hx hb d_M_step_151 (by decide) ?_
            refine lv_icmp_ne (tgt := 159) hx hb d_M_step_152 (by decide) (fun c152 => ?_) (fun c152 => ?_)
            · have h := ite_f c152 h
              refine lv_iconst (v := 0) hx hb d_M_step_159 (by decide) ?_
              exact w_M_step_160 C n (0 : Int32) h hW hS (lv_sub hl [] rfl)
            · have h := ite_t c152 h
              refine lv_iconst (v := 1) hx hb d_M_step_155 (by decide) ?_
              refine lv_goto (tgt := 160) hx hb d_M_step_156 (by decide) ?_
              exact w_M_step_160 C n (1 : Int32) h hW hS (lv_sub hl [] rfl)
          · have h := ite_f c86_3 h
            by_cases c86_4 : v3 = (4 : Int32)
            · have h := ite_t c86_4 h
              refine lv_tableIn (off := 81) (tgt := 167) hx hb d_M_step_86 (by rw [c86_4]; decide) (by rw [c86_4]; decide) (by rw [c86_4]; rfl) (by decide) ?_
              refine lv_aload_n hx hb d_M_step_167 rfl (lv_at hl 2 rfl) ?_
              refine lv_aload_n hx hb d_M_step_168 rfl (lv_at hl 2 rfl) ?_
              refine hg_i C hW 200 6 (hW.fx 200 rfl) rfl q_M (by decide) rfl (lkF C kf_M_99) d_M_step_169 ?_
              refine lv_if_ne (tgt := 179) hx hb d_M_step_172 (by decide) (fun c172 => ?_) (fun c172 => ?_)
              · have h := ite_f c172 h
                refine lv_iconst (v := 0) hx hb d_M_step_179 (by decide) ?_
                exact w_M_step_180 C n (0 : Int32) h hW hS (lv_sub hl [] rfl)
              · have h := ite_t c172 h
                refine lv_iconst (v := 1) hx hb d_M_step_175 (by decide) ?_
                refine lv_goto (tgt := 180) hx hb d_M_step_176 (by decide) ?_
                exact w_M_step_180 C n (1 : Int32) h hW hS (lv_sub hl [] rfl)
            · have h := ite_f c86_4 h
              by_cases c86_5 : v3 = (5 : Int32)
              · have h := ite_t c86_5 h
                refine lv_tableIn (off := 101) (tgt := 187) hx hb d_M_step_86 (by rw [c86_5]; decide) (by rw [c86_5]; decide) (by rw [c86_5]; rfl) (by decide) ?_
                refine lv_aload_n hx hb d_M_step_187 rfl (lv_at hl 2 rfl) ?_
                refine lv_aload_n hx hb d_M_step_188 rfl (lv_at hl 2 rfl) ?_
                obtain ⟨r7, er7, h⟩ := ob_some h
                refine hx_V (i := 200) (As := []) (rest := [.ref (ad 200)]) C hW hS (s_M_isOwn n er7) km_M_224 kv_M_isOwn ke_M_isOwn kn_M kw_M_isOwn kd_M_isOwn (hW.fx 200 rfl) rfl q_M rfl ⟨by decide, by decide⟩ ⟨Nat.zero_le _, Nat.zero_le _⟩ rfl hl.1 rfl (Nat.le_of_ble_eq_true rfl) d_M_step_189 (fun H locs hW hS => ?_)
                obtain ⟨r9, S8, eS8, h⟩ := ob2_some h
                refine hx_V (i := 200) (As := [.int (r7)]) (rest := []) C hW hS (s_M_must r7 eS8) km_M_213 kv_M_must ke_M_must kn_M kw_M_must kd_M_must (hW.fx 200 rfl) rfl q_M rfl ⟨by decide, by decide⟩ ⟨Nat.zero_le _, Nat.zero_le _⟩ rfl hl.1 rfl (Nat.le_of_ble_eq_true rfl) d_M_step_192 (fun H locs hW hS => ?_)
                refine lv_if_eq (tgt := 353) hx hb d_M_step_195 (by decide) (fun c195 => ?_) (fun c195 => ?_)
                · have h := ite_t c195 h
                  have h := Option.some.inj h
                  subst h
                  exact he_v C hW hS d_M_step_353
                · have h := ite_f c195 h
                  refine lv_aload_n hx hb d_M_step_198 rfl (lv_at hl 2 rfl) ?_
                  refine lv_iload_n hx hb d_M_step_199 rfl (lv_at hl 0 rfl) ?_
                  obtain ⟨S10, eS10, h⟩ := ob_some h
                  refine hx_V (i := 200) (As := [.int (v5)]) (rest := []) C hW hS (s_M_setName v5 eS10) km_M_228 kv_M_setName ke_M_setName kn_M kw_M_setName kd_M_setName (hW.fx 200 rfl) rfl q_M rfl ⟨by decide, by decide⟩ ⟨Nat.zero_le _, Nat.zero_le _⟩ rfl hl.1 rfl (Nat.le_of_ble_eq_true rfl) d_M_step_200 (fun H locs hW hS => ?_)
                  refine lv_aload_n hx hb d_M_step_203 rfl (lv_at hl 2 rfl) ?_
                  refine hg_r (j := 220) C hW 200 20 (hW.fx 200 rfl) rfl q_M (by decide) rfl (hW.fn (E := E1) (i := 200) (k := 20) rfl) (lkF C kf_M_43) d_M_step_204 ?_
                  refine lv_iload_n hx hb d_M_step_207 rfl (lv_at hl 0 rfl) ?_
                  obtain ⟨g11, h⟩ := gd_some h
                  refine ha_i C hW 220 (hW.fx 220 rfl) rfl rfl g11 d_M_step_208 ?_
                  refine lv_bipush (v := 11) hx hb d_M_step_209 (by decide) ?_
                  refine lv_icmp_eq (tgt := 225) hx hb d_M_step_211 (by decide) (fun c211 => ?_) (fun c211 => ?_)
                  · have h := ite_t c211 h
                    exact w_M_step_225 C n v5 h hW hS (lv_sub hl [2, 0] rfl)
                  · have h := ite_f c211 h
                    refine lv_aload_n hx hb d_M_step_214 rfl (lv_at hl 2 rfl) ?_
                    refine hg_r (j := 220) C hW 200 20 (hW.fx 200 rfl) rfl q_M (by decide) rfl (hW.fn (E := E1) (i := 200) (k := 20) rfl) (lkF C kf_M_43) d_M_step_215 ?_
                    refine lv_iload_n hx hb d_M_step_218 rfl (lv_at hl 0 rfl) ?_
                    obtain ⟨g12, h⟩ := gd_some h
                    refine ha_i C hW 220 (hW.fx 220 rfl) rfl rfl g12 d_M_step_219 ?_
                    refine lv_bipush (v := 21) hx hb d_M_step_220 (by decide) ?_
                    refine lv_icmp_ne (tgt := 233) hx hb d_M_step_222 (by decide) (fun c222 => ?_) (fun c222 => ?_)
                    · have h := ite_f c222 h
                      refine lv_aload_n hx hb d_M_step_233 rfl (lv_at hl 2 rfl) ?_
                      obtain ⟨S13, eS13, h⟩ := ob_some h
                      refine hx_V (i := 200) (As := []) (rest := []) C hW hS (s_M_bind eS13) km_M_245 kv_M_bind ke_M_bind kn_M kw_M_bind kd_M_bind (hW.fx 200 rfl) rfl q_M rfl ⟨by decide, by decide⟩ ⟨Nat.zero_le _, Nat.zero_le _⟩ rfl hl.1 rfl (Nat.le_of_ble_eq_true rfl) d_M_step_234 (fun H locs hW hS => ?_)
                      refine lv_goto (tgt := 353) hx hb d_M_step_237 (by decide) ?_
                      have h := Option.some.inj h
                      subst h
                      exact he_v C hW hS d_M_step_353
                    · have h := ite_t c222 h
                      exact w_M_step_225 C n v5 h hW hS (lv_sub hl [2, 0] rfl)
              · have h := ite_f c86_5 h
                by_cases c86_6 : v3 = (6 : Int32)
                · have h := ite_t c86_6 h
                  refine lv_tableIn (off := 154) (tgt := 240) hx hb d_M_step_86 (by rw [c86_6]; decide) (by rw [c86_6]; decide) (by rw [c86_6]; rfl) (by decide) ?_
                  refine lv_aload_n hx hb d_M_step_240 rfl (lv_at hl 2 rfl) ?_
                  refine lv_aload_n hx hb d_M_step_241 rfl (lv_at hl 2 rfl) ?_
                  obtain ⟨r14, er14, h⟩ := ob_some h
                  refine hx_V (i := 200) (As := []) (rest := [.ref (ad 200)]) C hW hS (s_M_isOwn n er14) km_M_224 kv_M_isOwn ke_M_isOwn kn_M kw_M_isOwn kd_M_isOwn (hW.fx 200 rfl) rfl q_M rfl ⟨by decide, by decide⟩ ⟨Nat.zero_le _, Nat.zero_le _⟩ rfl hl.1 rfl (Nat.le_of_ble_eq_true rfl) d_M_step_242 (fun H locs hW hS => ?_)
                  refine lv_if_eq (tgt := 266) hx hb d_M_step_245 (by decide) (fun c245 => ?_) (fun c245 => ?_)
                  · have h := ite_t c245 h
                    exact w_M_step_266 C n v5 h hW hS (lv_sub hl [2, 0] rfl)
                  · have h := ite_f c245 h
                    refine lv_aload_n hx hb d_M_step_248 rfl (lv_at hl 2 rfl) ?_
                    refine hg_l C hW 200 8 (hW.fx 200 rfl) rfl q_M (by decide) rfl (lkF C kf_M_115) d_M_step_249 ?_
                    refine lv_aload_n hx hb d_M_step_252 rfl (lv_at hl 2 rfl) ?_
                    refine hg_r (j := 227) C hW 200 27 (hW.fx 200 rfl) rfl q_M (by decide) rfl (hW.fn (E := E1) (i := 200) (k := 27) rfl) (lkF C kf_M_64) d_M_step_253 ?_
                    refine lv_iload_n hx hb d_M_step_256 rfl (lv_at hl 0 rfl) ?_
                    obtain ⟨g15, h⟩ := gd_some h
                    refine ha_l C hW 227 (hW.fx 227 rfl) rfl rfl g15 d_M_step_257 ?_
                    refine W.lcmp hx hb d_M_step_258 ?_
                    refine lv_if_eq (tgt := 266) hx hb d_M_step_259 (by decide) (fun c259 => ?_) (fun c259 => ?_)
                    · have h := ite_t c259 h
                      exact w_M_step_266 C n v5 h hW hS (lv_sub hl [2, 0] rfl)
                    · have h := ite_f c259 h
                      refine lv_iconst (v := 1) hx hb d_M_step_262 (by decide) ?_
                      refine lv_goto (tgt := 267) hx hb d_M_step_263 (by decide) ?_
                      exact w_M_step_267 C n v5 (1 : Int32) h hW hS (lv_sub hl [2, 0] rfl)
                · have h := ite_f c86_6 h
                  by_cases c86_7 : v3 = (7 : Int32)
                  · have h := ite_t c86_7 h
                    refine lv_tableIn (off := 214) (tgt := 300) hx hb d_M_step_86 (by rw [c86_7]; decide) (by rw [c86_7]; decide) (by rw [c86_7]; rfl) (by decide) ?_
                    refine lv_aload_n hx hb d_M_step_300 rfl (lv_at hl 2 rfl) ?_
                    refine hg_i C hW 200 6 (hW.fx 200 rfl) rfl q_M (by decide) rfl (lkF C kf_M_99) d_M_step_301 ?_
                    refine lv_iconst (v := 1) hx hb d_M_step_304 (by decide) ?_
                    refine lv_icmp_eq (tgt := 324) hx hb d_M_step_305 (by decide) (fun c305 => ?_) (fun c305 => ?_)
                    · have h := ite_t c305 h
                      refine lv_aload_n hx hb d_M_step_324 rfl (lv_at hl 2 rfl) ?_
                      refine lv_dup hx hb d_M_step_325 rfl ?_
                      refine hg_i C hW 200 31 (hW.fx 200 rfl) rfl q_M (by decide) rfl (lkF C kf_M_204) d_M_step_326 ?_
                      refine lv_iconst (v := 1) hx hb d_M_step_329 (by decide) ?_
                      refine lv_isub hx hb d_M_step_330 ?_
                      obtain ⟨S16, eS16, h⟩ := lt_some h
                      refine hp_i C hW hS 200 31 (hW.fx 200 rfl) rfl q_M (by decide) rfl rfl rfl (lkF C kf_M_204) eS16 d_M_step_331 (fun H locs hW hS => ?_)
                      refine lv_goto (tgt := 353) hx hb d_M_step_334 (by decide) ?_
                      have h := Option.some.inj h
                      subst h
                      exact he_v C hW hS d_M_step_353
                    · have h := ite_f c305 h
                      refine lv_aload_n hx hb d_M_step_308 rfl (lv_at hl 2 rfl) ?_
                      refine lv_bipush (v := 7) hx hb d_M_step_309 (by decide) ?_
                      refine lv_iload_n hx hb d_M_step_311 rfl (lv_at hl 0 rfl) ?_
                      obtain ⟨S17, eS17, h⟩ := ob_some h
                      refine hx_V (i := 200) (As := [.int ((7 : Int32)), .int (v5)]) (rest := []) C hW hS (s_M_push (7 : Int32) v5 eS17) km_M_217 kv_M_push ke_M_push kn_M kw_M_push kd_M_push (hW.fx 200 rfl) rfl q_M rfl ⟨by decide, by decide⟩ ⟨Nat.zero_le _, Nat.zero_le _⟩ rfl hl.1 rfl (Nat.le_of_ble_eq_true rfl) d_M_step_312 (fun H locs hW hS => ?_)
                      refine lv_aload_n hx hb d_M_step_315 rfl (lv_at hl 2 rfl) ?_
                      refine lv_iconst (v := 1) hx hb d_M_step_316 (by decide) ?_
                      refine lv_iload_n hx hb d_M_step_317 rfl (lv_at hl 0 rfl) ?_
                      obtain ⟨S18, eS18, h⟩ := ob_some h
                      refine hx_V (i := 200) (As := [.int ((1 : Int32)), .int (v5)]) (rest := []) C hW hS (s_M_begin n (1 : Int32) v5 eS18) km_M_238 kv_M_begin ke_M_begin kn_M kw_M_begin kd_M_begin (hW.fx 200 rfl) rfl q_M rfl ⟨by decide, by decide⟩ ⟨Nat.zero_le _, Nat.zero_le _⟩ rfl hl.1 rfl (Nat.le_of_ble_eq_true rfl) d_M_step_318 (fun H locs hW hS => ?_)
                      refine lv_goto (tgt := 353) hx hb d_M_step_321 (by decide) ?_
                      have h := Option.some.inj h
                      subst h
                      exact he_v C hW hS d_M_step_353
                  · have h := ite_f c86_7 h
                    refine lv_tableOut (tgt := 337) hx hb d_M_step_86 (by have := lv_neT c86_1 (show ((1 : Int32)).toInt = 1 by decide); have := lv_neT c86_2 (show ((2 : Int32)).toInt = 2 by decide); have := lv_neT c86_3 (show ((3 : Int32)).toInt = 3 by decide); have := lv_neT c86_4 (show ((4 : Int32)).toInt = 4 by decide); have := lv_neT c86_5 (show ((5 : Int32)).toInt = 5 by decide); have := lv_neT c86_6 (show ((6 : Int32)).toInt = 6 by decide); have := lv_neT c86_7 (show ((7 : Int32)).toInt = 7 by decide); omega) (by decide) ?_
                    refine lv_aload_n hx hb d_M_step_337 rfl (lv_at hl 2 rfl) ?_
                    refine lv_aload_n hx hb d_M_step_338 rfl (lv_at hl 2 rfl) ?_
                    obtain ⟨r19, er19, h⟩ := ob_some h
                    refine hx_V (i := 200) (As := []) (rest := [.ref (ad 200)]) C hW hS (s_M_isOwn n er19) km_M_224 kv_M_isOwn ke_M_isOwn kn_M kw_M_isOwn kd_M_isOwn (hW.fx 200 rfl) rfl q_M rfl ⟨by decide, by decide⟩ ⟨Nat.zero_le _, Nat.zero_le _⟩ rfl hl.1 rfl (Nat.le_of_ble_eq_true rfl) d_M_step_339 (fun H locs hW hS => ?_)
                    obtain ⟨r21, S20, eS20, h⟩ := ob2_some h
                    refine hx_V (i := 200) (As := [.int (r19)]) (rest := []) C hW hS (s_M_must r19 eS20) km_M_213 kv_M_must ke_M_must kn_M kw_M_must kd_M_must (hW.fx 200 rfl) rfl q_M rfl ⟨by decide, by decide⟩ ⟨Nat.zero_le _, Nat.zero_le _⟩ rfl hl.1 rfl (Nat.le_of_ble_eq_true rfl) d_M_step_342 (fun H locs hW hS => ?_)
                    refine lv_if_eq (tgt := 353) hx hb d_M_step_345 (by decide) (fun c345 => ?_) (fun c345 => ?_)
                    · have h := ite_t c345 h
                      have h := Option.some.inj h
                      subst h
                      exact he_v C hW hS d_M_step_353
                    · have h := ite_f c345 h
                      refine lv_aload_n hx hb d_M_step_348 rfl (lv_at hl 2 rfl) ?_
                      refine lv_iload_n hx hb d_M_step_349 rfl (lv_at hl 0 rfl) ?_
                      obtain ⟨S22, eS22, h⟩ := ob_some h
                      refine hx_V (i := 200) (As := [.int (v5)]) (rest := []) C hW hS (s_M_setName v5 eS22) km_M_228 kv_M_setName ke_M_setName kn_M kw_M_setName kd_M_setName (hW.fx 200 rfl) rfl q_M rfl ⟨by decide, by decide⟩ ⟨Nat.zero_le _, Nat.zero_le _⟩ rfl hl.1 rfl (Nat.le_of_ble_eq_true rfl) d_M_step_350 (fun H locs hW hS => ?_)
                      have h := Option.some.inj h
                      subst h
                      exact he_v C hW hS d_M_step_353
    · have h := ite_f c81 h
      have h := Option.some.inj h
      subst h
      exact he_v C hW hS d_M_step_84
  · have h := ite_t c33 h
    refine lv_aload_n hx hb d_M_step_36 rfl (lv_at hl 2 rfl) ?_
    refine lv_dup hx hb d_M_step_37 rfl ?_
    refine hg_i C hW 200 32 (hW.fx 200 rfl) rfl q_M (by decide) rfl (lkF C kf_M_210) d_M_step_38 ?_
    refine lv_aload_n hx hb d_M_step_41 rfl (lv_at hl 2 rfl) ?_
    refine hg_r (j := 220) C hW 200 20 (hW.fx 200 rfl) rfl q_M (by decide) rfl (hW.fn (E := E1) (i := 200) (k := 20) rfl) (lkF C kf_M_43) d_M_step_42 ?_
    refine lv_iload_n hx hb d_M_step_45 rfl (lv_at hl 0 rfl) ?_
    obtain ⟨g23, h⟩ := gd_some h
    refine ha_i C hW 220 (hW.fx 220 rfl) rfl rfl g23 d_M_step_46 ?_
    refine lv_bipush (v := 12) hx hb d_M_step_47 (by decide) ?_
    refine lv_icmp_eq (tgt := 63) hx hb d_M_step_49 (by decide) (fun c49 => ?_) (fun c49 => ?_)
    · have h := ite_t c49 h
      exact w_M_step_63 C n (gF S1 200 32) h hW hS (lv_sub hl [] rfl)
    · have h := ite_f c49 h
      refine lv_aload_n hx hb d_M_step_52 rfl (lv_at hl 2 rfl) ?_
      refine hg_r (j := 220) C hW 200 20 (hW.fx 200 rfl) rfl q_M (by decide) rfl (hW.fn (E := E1) (i := 200) (k := 20) rfl) (lkF C kf_M_43) d_M_step_53 ?_
      refine lv_iload_n hx hb d_M_step_56 rfl (lv_at hl 0 rfl) ?_
      obtain ⟨g24, h⟩ := gd_some h
      refine ha_i C hW 220 (hW.fx 220 rfl) rfl rfl g24 d_M_step_57 ?_
      refine lv_bipush (v := 22) hx hb d_M_step_58 (by decide) ?_
      refine lv_icmp_ne (tgt := 67) hx hb d_M_step_60 (by decide) (fun c60 => ?_) (fun c60 => ?_)
      · have h := ite_f c60 h
        refine lv_iconst (v := 1) hx hb d_M_step_67 (by decide) ?_
        exact w_M_step_68 C n (1 : Int32) (gF S1 200 32) h hW hS (lv_sub hl [] rfl)
      · have h := ite_t c60 h
        exact w_M_step_63 C n (gF S1 200 32) h hW hS (lv_sub hl [] rfl)
end WK
def f_M_expression_b19B (n : Nat) (kc : HS → Option HS) (S : HS) : Option HS :=
  (if (gF S 200 31) ≤ 0 then
  some S
  else
  (if (gF S 200 3) = 0 then
  gd (inR ((gF S 200 31) - (1 : Int32)) 33000) <|
  (if (gF S 229 ((gF S 200 31) - (1 : Int32)).toNatClampNeg) = (10 : Int32) then
  lt (sF S 200 31 ((gF S 200 31) - (1 : Int32))) fun S5 =>
  lt (sF S5 200 32 ((gF S5 200 32) + (1 : Int32))) fun S6 =>
  kc S6
  else
  ob (f_M_step n S) fun S4 =>
  kc S4)
  else
  some S))
def f_M_expression_b19 (n : Nat) (k : Nat) : HS → Option HS := lpF (fun _ => none) (f_M_expression_b19B n) k
def f_M_expression_b15 (n : Nat) (y0 : Int32) (S : HS) : Option HS :=
  ob (f_M_push y0 (-1 : Int32) S) fun S2 =>
  f_M_expression_b19 n n S2
def f_M_expression (n : Nat) (x1 : Int32) (S : HS) : Option HS :=
  lt (sF S 200 31 (0 : Int32)) fun S1 =>
  (if x1 = 0 then
  f_M_expression_b15 n (2 : Int32) S1
  else
  f_M_expression_b15 n (1 : Int32) S1)
section WK
variable {p : Program} {l : Launch} {e : Env} {s : State} {m : MethodId} {args : Array Value} {below : List Frame} {meth : Method} {c : Code} {D : va_G} {cA : Nat → ClassId} {z : Nat} {ac : Nat → Nat} {ad : Nat → Nat}
set_option maxHeartbeats 4000000 in
set_option maxRecDepth 100000 in
theorem w_M_expression_19B (C : CB p s m args c meth b_M_expression "TwoLevelParserModel" 2 none D cA z ac) (n : Nat) (kc : HS → Option HS) {S' : HS} (hk : ∀ (S : HS) {H : Heap} {locs : List Loc} {ls : Array Slot}, kc S = some S' → HW D cA z ac E1 ad S H → va_S (zA z) s.heap H locs → lv_has ls 2 [(0, .ref (ad 200))] → GW p l e 10 s m args below meth c D cA z ac E1 ad none S' H locs (F0 m 19 ls [])) {S : HS} {H : Heap} {locs : List Loc} {ls : Array Slot} (h : f_M_expression_b19B n kc S = some S') (hW : HW D cA z ac E1 ad S H) (hS : va_S (zA z) s.heap H locs) (hl : lv_has ls 2 [(0, .ref (ad 200))]) : GW p l e 10 s m args below meth c D cA z ac E1 ad none S' H locs (F0 m 19 ls []) := by
  obtain ⟨⟨hx, hb, hml, hown, hts⟩, hK, hr, hlo⟩ := id C
  unfold f_M_expression_b19B at h
  refine lv_aload_n hx hb d_M_expression_19 rfl (lv_at hl 0 rfl) ?_
  refine hg_i C hW 200 31 (hW.fx 200 rfl) rfl q_M (by decide) rfl (lkF C kf_M_204) d_M_expression_20 ?_
  refine lv_if_le (tgt := 79) hx hb d_M_expression_23 (by decide) (fun c23 => ?_) (fun c23 => ?_)
  · have h := ite_t c23 h
    have h := Option.some.inj h
    subst h
    exact he_v C hW hS d_M_expression_79
  · have h := ite_f c23 h
    refine lv_aload_n hx hb d_M_expression_26 rfl (lv_at hl 0 rfl) ?_
    refine hg_i C hW 200 3 (hW.fx 200 rfl) rfl q_M (by decide) rfl (lkF C kf_M_83) d_M_expression_27 ?_
    refine lv_if_ne (tgt := 79) hx hb d_M_expression_30 (by decide) (fun c30 => ?_) (fun c30 => ?_)
    · have h := ite_f c30 h
      have h := Option.some.inj h
      subst h
      exact he_v C hW hS d_M_expression_79
    · have h := ite_t c30 h
      refine lv_aload_n hx hb d_M_expression_33 rfl (lv_at hl 0 rfl) ?_
      refine hg_r (j := 229) C hW 200 29 (hW.fx 200 rfl) rfl q_M (by decide) rfl (hW.fn (E := E1) (i := 200) (k := 29) rfl) (lkF C kf_M_71) d_M_expression_34 ?_
      refine lv_aload_n hx hb d_M_expression_37 rfl (lv_at hl 0 rfl) ?_
      refine hg_i C hW 200 31 (hW.fx 200 rfl) rfl q_M (by decide) rfl (lkF C kf_M_204) d_M_expression_38 ?_
      refine lv_iconst (v := 1) hx hb d_M_expression_41 (by decide) ?_
      refine lv_isub hx hb d_M_expression_42 ?_
      obtain ⟨g3, h⟩ := gd_some h
      refine ha_b C hW 229 (hW.fx 229 rfl) rfl rfl g3 d_M_expression_43 ?_
      refine lv_bipush (v := 10) hx hb d_M_expression_44 (by decide) ?_
      refine lv_icmp_ne (tgt := 72) hx hb d_M_expression_46 (by decide) (fun c46 => ?_) (fun c46 => ?_)
      · have h := ite_f c46 h
        refine lv_aload_n hx hb d_M_expression_72 rfl (lv_at hl 0 rfl) ?_
        obtain ⟨S4, eS4, h⟩ := ob_some h
        refine hx_V (i := 200) (As := []) (rest := []) C hW hS (s_M_step n eS4) km_M_248 kv_M_step ke_M_step kn_M kw_M_step kd_M_step (hW.fx 200 rfl) rfl q_M rfl ⟨by decide, by decide⟩ ⟨Nat.zero_le _, Nat.zero_le _⟩ rfl hl.1 rfl (Nat.le_of_ble_eq_true rfl) d_M_expression_73 (fun H locs hW hS => ?_)
        refine lv_goto (tgt := 19) hx hb d_M_expression_76 (by decide) ?_
        exact hk _ h hW hS (lv_sub hl [0] rfl)
      · have h := ite_t c46 h
        refine lv_aload_n hx hb d_M_expression_49 rfl (lv_at hl 0 rfl) ?_
        refine lv_dup hx hb d_M_expression_50 rfl ?_
        refine hg_i C hW 200 31 (hW.fx 200 rfl) rfl q_M (by decide) rfl (lkF C kf_M_204) d_M_expression_51 ?_
        refine lv_iconst (v := 1) hx hb d_M_expression_54 (by decide) ?_
        refine lv_isub hx hb d_M_expression_55 ?_
        obtain ⟨S5, eS5, h⟩ := lt_some h
        refine hp_i C hW hS 200 31 (hW.fx 200 rfl) rfl q_M (by decide) rfl rfl rfl (lkF C kf_M_204) eS5 d_M_expression_56 (fun H locs hW hS => ?_)
        refine lv_aload_n hx hb d_M_expression_59 rfl (lv_at hl 0 rfl) ?_
        refine lv_dup hx hb d_M_expression_60 rfl ?_
        refine hg_i C hW 200 32 (hW.fx 200 rfl) rfl q_M (by decide) rfl (lkF C kf_M_210) d_M_expression_61 ?_
        refine lv_iconst (v := 1) hx hb d_M_expression_64 (by decide) ?_
        refine lv_iadd hx hb d_M_expression_65 ?_
        obtain ⟨S6, eS6, h⟩ := lt_some h
        refine hp_i C hW hS 200 32 (hW.fx 200 rfl) rfl q_M (by decide) rfl rfl rfl (lkF C kf_M_210) eS6 d_M_expression_66 (fun H locs hW hS => ?_)
        refine lv_goto (tgt := 19) hx hb d_M_expression_69 (by decide) ?_
        exact hk _ h hW hS (lv_sub hl [0] rfl)
set_option maxHeartbeats 4000000 in
set_option maxRecDepth 100000 in
theorem w_M_expression_19 (C : CB p s m args c meth b_M_expression "TwoLevelParserModel" 2 none D cA z ac) (n : Nat) (k : Nat) {S' : HS} : ∀ {S : HS} {H : Heap} {locs : List Loc} {ls : Array Slot}, f_M_expression_b19 n k S = some S' → HW D cA z ac E1 ad S H → va_S (zA z) s.heap H locs → lv_has ls 2 [(0, .ref (ad 200))] → GW p l e 10 s m args below meth c D cA z ac E1 ad none S' H locs (F0 m 19 ls []) := by
  induction k with
  | zero => intro S H locs ls h; cases h
  | succ k ih => intro S H locs ls h hW hS hl; exact w_M_expression_19B C n (f_M_expression_b19 n k) (fun S H locs ls h hW hS hl => ih h hW hS hl) h hW hS hl
set_option maxHeartbeats 4000000 in
set_option maxRecDepth 100000 in
theorem w_M_expression_15 (C : CB p s m args c meth b_M_expression "TwoLevelParserModel" 2 none D cA z ac) (n : Nat) {S' : HS} (y0 : Int32) {S : HS} {H : Heap} {locs : List Loc} {ls : Array Slot} (h : f_M_expression_b15 n y0 S = some S') (hW : HW D cA z ac E1 ad S H) (hS : va_S (zA z) s.heap H locs) (hl : lv_has ls 2 [(0, .ref (ad 200))]) : GW p l e 10 s m args below meth c D cA z ac E1 ad none S' H locs (F0 m 15 ls [.int (y0), .ref (ad 200)]) := by
  obtain ⟨⟨hx, hb, hml, hown, hts⟩, hK, hr, hlo⟩ := id C
  unfold f_M_expression_b15 at h
  refine lv_iconst (v := -1) hx hb d_M_expression_15 (by decide) ?_
  obtain ⟨S2, eS2, h⟩ := ob_some h
  refine hx_V (i := 200) (As := [.int (y0), .int ((-1 : Int32))]) (rest := []) C hW hS (s_M_push y0 (-1 : Int32) eS2) km_M_217 kv_M_push ke_M_push kn_M kw_M_push kd_M_push (hW.fx 200 rfl) rfl q_M rfl ⟨by decide, by decide⟩ ⟨Nat.zero_le _, Nat.zero_le _⟩ rfl hl.1 rfl (Nat.le_of_ble_eq_true rfl) d_M_expression_16 (fun H locs hW hS => ?_)
  exact w_M_expression_19 C n n h hW hS (lv_sub hl [0] rfl)
set_option maxHeartbeats 4000000 in
set_option maxRecDepth 100000 in
theorem s_M_expression (n : Nat) (x1 : Int32) {S : HS} {S' : HS} (h : f_M_expression n x1 S = some S') : Met l y_M_expression (.code y_M_expression b_M_expression 2 none :: lw_g) (rmD 10 0 0) (PcH D cA z ac E1 ad [.ref (ad 200), .int (x1)] S) (QN D cA z ac E1 ad none S') 0 0 (zA z) := by
  refine Met.ofH (own := "TwoLevelParserModel") (by decide) rfl (Nat.le_of_ble_eq_true rfl) ?_
  intro p e s m args below meth c H ls C hW hS hl
  have hl : lv_has ls 2 [(0, .ref (ad 200)), (1, .int (x1))] := hl
  obtain ⟨⟨hx, hb, hml, hown, hts⟩, hK, hr, hlo⟩ := id C
  unfold f_M_expression at h
  refine lv_aload_n hx hb d_M_expression_0 rfl (lv_at hl 0 rfl) ?_
  refine lv_iconst (v := 0) hx hb d_M_expression_1 (by decide) ?_
  obtain ⟨S1, eS1, h⟩ := lt_some h
  refine hp_i C hW hS 200 31 (hW.fx 200 rfl) rfl q_M (by decide) rfl rfl rfl (lkF C kf_M_204) eS1 d_M_expression_2 (fun H locs hW hS => ?_)
  refine lv_aload_n hx hb d_M_expression_5 rfl (lv_at hl 0 rfl) ?_
  refine lv_iload_n hx hb d_M_expression_6 rfl (lv_at hl 1 rfl) ?_
  refine lv_if_eq (tgt := 14) hx hb d_M_expression_7 (by decide) (fun c7 => ?_) (fun c7 => ?_)
  · have h := ite_t c7 h
    refine lv_iconst (v := 2) hx hb d_M_expression_14 (by decide) ?_
    exact w_M_expression_15 C n (2 : Int32) h hW hS (lv_sub hl [0] rfl)
  · have h := ite_f c7 h
    refine lv_iconst (v := 1) hx hb d_M_expression_10 (by decide) ?_
    refine lv_goto (tgt := 15) hx hb d_M_expression_11 (by decide) ?_
    exact w_M_expression_15 C n (1 : Int32) h hW hS (lv_sub hl [0] rfl)
end WK
def f_M_readParameter_b67 (n : Nat) (kc : Int32 → Int32 → Int32 → HS → Option HS) (x1 : Int32) (x3 : Int32) (y0 : Int32) (S : HS) : Option HS :=
  lt y0 fun v10 =>
  lt (x3 + 1) fun v11 =>
  kc x1 v10 v11 S
def f_M_readParameter_b62 (n : Nat) (kc : Int32 → Int32 → Int32 → HS → Option HS) (x1 : Int32) (x3 : Int32) (S : HS) : Option HS :=
  f_M_readParameter_b67 n kc x1 x3 (1 : Int32) S
def f_M_readParameter_b227 (n : Nat) (y0 : Int32) (S : HS) : Option HS :=
  ob2 (f_M_must y0 S) fun r30 S29 =>
  some S29
def f_M_readParameter_b191 (n : Nat) (x1 : Int32) (y0 : Int32) (y1 : Int32) (S : HS) : Option HS :=
  gd (inR y1 512) <|
  lt (sF S 218 y1.toNatClampNeg y0) fun S24 =>
  gd (inR x1 64) <|
  gd (inR x1 64) <|
  lt (sF S24 213 x1.toNatClampNeg ((gF S24 213 x1.toNatClampNeg) + (1 : Int32))) fun S27 =>
  (if (gF S27 200 3) = 0 then
  ob (f_M_next n S27) fun S28 =>
  (if (gF S28 200 6) = (1 : Int32) then
  f_M_readParameter_b227 n (1 : Int32) S28
  else
  f_M_readParameter_b227 n (0 : Int32) S28)
  else
  some S27)
def f_M_readParameter_b154 (n : Nat) (x1 : Int32) (y0 : Int32) (S : HS) : Option HS :=
  ob2 (f_M_must y0 S) fun r20 S19 =>
  gd (inR x1 64) <|
  (if (gF S19 200 3) ≤ 0 then
  ob (f_M_type n S19) fun r22 =>
  f_M_readParameter_b191 n x1 r22 (((8 : Int32) * x1) + ((gF S19 213 x1.toNatClampNeg) &&& (7 : Int32))) S19
  else
  f_M_readParameter_b191 n x1 (0 : Int32) (((8 : Int32) * x1) + ((gF S19 213 x1.toNatClampNeg) &&& (7 : Int32))) S19)
def f_M_readParameter_b149 (n : Nat) (x1 : Int32) (S : HS) : Option HS :=
  f_M_readParameter_b154 n x1 (1 : Int32) S
def f_M_readParameter_b98 (n : Nat) (x1 : Int32) (y0 : Int32) (S : HS) : Option HS :=
  ob2 (f_M_must y0 S) fun r13 S12 =>
  (if (gF S12 200 3) ≤ 0 then
  gd (inR x1 64) <|
  gd (inR (((8 : Int32) * x1) + (gF S12 213 x1.toNatClampNeg)) 512) <|
  lt (sL S12 217 (((8 : Int32) * x1) + (gF S12 213 x1.toNatClampNeg)).toNatClampNeg (gL S12 200 8)) fun S16 =>
  ob (f_M_next n S16) fun S17 =>
  (if 0 < (gF S17 200 3) then
  f_M_readParameter_b149 n x1 S17
  else
  ob (f_M_type n S17) fun r18 =>
  (if r18 < 0 then
  f_M_readParameter_b154 n x1 (0 : Int32) S17
  else
  f_M_readParameter_b149 n x1 S17))
  else
  some S12)
def f_M_readParameter_b93 (n : Nat) (x1 : Int32) (S : HS) : Option HS :=
  f_M_readParameter_b98 n x1 (1 : Int32) S
def f_M_readParameter_b97 (n : Nat) (x1 : Int32) (S : HS) : Option HS :=
  f_M_readParameter_b98 n x1 (0 : Int32) S
def f_M_readParameter_b29B (n : Nat) (kc : Int32 → Int32 → Int32 → HS → Option HS) (x1 : Int32) (x2 : Int32) (x3 : Int32) (S : HS) : Option HS :=
  gd (inR x1 64) <|
  (if (gF S 213 x1.toNatClampNeg) ≤ x3 then
  (if 0 < (gF S 200 3) then
  f_M_readParameter_b93 n x1 S
  else
  ob (f_M_isOwn n S) fun r8 =>
  (if r8 = 0 then
  f_M_readParameter_b97 n x1 S
  else
  (if x2 = 0 then
  f_M_readParameter_b93 n x1 S
  else
  f_M_readParameter_b97 n x1 S)))
  else
  (if x2 = 0 then
  gd (inR (((8 : Int32) * x1) + x3) 512) <|
  (if (lg_cmp (gL S 217 (((8 : Int32) * x1) + x3).toNatClampNeg) (gL S 200 8)) = 0 then
  f_M_readParameter_b62 n kc x1 x3 S
  else
  f_M_readParameter_b67 n kc x1 x3 (0 : Int32) S)
  else
  f_M_readParameter_b62 n kc x1 x3 S))
def f_M_readParameter_b29 (n : Nat) (k : Nat) : Int32 → Int32 → Int32 → HS → Option HS := lpF (fun _ _ _ _ => none) (f_M_readParameter_b29B n) k
def f_M_readParameter_b17 (n : Nat) (x1 : Int32) (y0 : Int32) (S : HS) : Option HS :=
  ob2 (f_M_must y0 S) fun r3 S2 =>
  ob (f_M_next n S2) fun S4 =>
  lt (0 : Int32) fun v5 =>
  lt (0 : Int32) fun v6 =>
  f_M_readParameter_b29 n n x1 v5 v6 S4
def f_M_readParameter (n : Nat) (x1 : Int32) (S : HS) : Option HS :=
  gd (inR x1 64) <|
  (if (8 : Int32) ≤ (gF S 213 x1.toNatClampNeg) then
  f_M_readParameter_b17 n x1 (0 : Int32) S
  else
  f_M_readParameter_b17 n x1 (1 : Int32) S)
section WK
variable {p : Program} {l : Launch} {e : Env} {s : State} {m : MethodId} {args : Array Value} {below : List Frame} {meth : Method} {c : Code} {D : va_G} {cA : Nat → ClassId} {z : Nat} {ac : Nat → Nat} {ad : Nat → Nat}
set_option maxHeartbeats 4000000 in
set_option maxRecDepth 100000 in
theorem w_M_readParameter_67 (C : CB p s m args c meth b_M_readParameter "TwoLevelParserModel" 4 none D cA z ac) (n : Nat) (kc : Int32 → Int32 → Int32 → HS → Option HS) {S' : HS} (hk : ∀ (x1 : Int32) (x2 : Int32) (x3 : Int32) (S : HS) {H : Heap} {locs : List Loc} {ls : Array Slot}, kc x1 x2 x3 S = some S' → HW D cA z ac E1 ad S H → va_S (zA z) s.heap H locs → lv_has ls 4 [(0, .ref (ad 200)), (1, .int (x1)), (2, .int (x2)), (3, .int (x3))] → GW p l e 8 s m args below meth c D cA z ac E1 ad none S' H locs (F0 m 29 ls [])) (x1 : Int32) (x3 : Int32) (y0 : Int32) {S : HS} {H : Heap} {locs : List Loc} {ls : Array Slot} (h : f_M_readParameter_b67 n kc x1 x3 y0 S = some S') (hW : HW D cA z ac E1 ad S H) (hS : va_S (zA z) s.heap H locs) (hl : lv_has ls 4 [(0, .ref (ad 200)), (1, .int (x1)), (3, .int (x3))]) : GW p l e 8 s m args below meth c D cA z ac E1 ad none S' H locs (F0 m 67 ls [.int (y0)]) := by
  obtain ⟨⟨hx, hb, hml, hown, hts⟩, hK, hr, hlo⟩ := id C
  unfold f_M_readParameter_b67 at h
  obtain ⟨v10, ev10, h⟩ := lt_some h
  refine lt_i_n (lv' := [(2, .int (v10)), (0, .ref (ad 200)), (1, .int (x1)), (3, .int (x3))]) C d_M_readParameter_67 rfl hl (by decide) ev10 rfl (fun ls hl => ?_)
  obtain ⟨v11, ev11, h⟩ := lt_some h
  refine lv_iinc (v := v11) (lv' := [(3, .int (v11)), (2, .int (v10)), (0, .ref (ad 200)), (1, .int (x1))]) hx hb d_M_readParameter_68 hl (k := 3) rfl (by rw [ev11]; rfl) (by decide) rfl (fun ls hl => ?_)
  refine lv_goto (tgt := 29) hx hb d_M_readParameter_71 (by decide) ?_
  exact hk _ _ _ _ h hW hS (lv_sub hl [2, 3, 1, 0] rfl)
set_option maxHeartbeats 4000000 in
set_option maxRecDepth 100000 in
theorem w_M_readParameter_62 (C : CB p s m args c meth b_M_readParameter "TwoLevelParserModel" 4 none D cA z ac) (n : Nat) (kc : Int32 → Int32 → Int32 → HS → Option HS) {S' : HS} (hk : ∀ (x1 : Int32) (x2 : Int32) (x3 : Int32) (S : HS) {H : Heap} {locs : List Loc} {ls : Array Slot}, kc x1 x2 x3 S = some S' → HW D cA z ac E1 ad S H → va_S (zA z) s.heap H locs → lv_has ls 4 [(0, .ref (ad 200)), (1, .int (x1)), (2, .int (x2)), (3, .int (x3))] → GW p l e 8 s m args below meth c D cA z ac E1 ad none S' H locs (F0 m 29 ls [])) (x1 : Int32) (x3 : Int32) {S : HS} {H : Heap} {locs : List Loc} {ls : Array Slot} (h : f_M_readParameter_b62 n kc x1 x3 S = some S') (hW : HW D cA z ac E1 ad S H) (hS : va_S (zA z) s.heap H locs) (hl : lv_has ls 4 [(0, .ref (ad 200)), (1, .int (x1)), (3, .int (x3))]) : GW p l e 8 s m args below meth c D cA z ac E1 ad none S' H locs (F0 m 62 ls []) := by
  obtain ⟨⟨hx, hb, hml, hown, hts⟩, hK, hr, hlo⟩ := id C
  unfold f_M_readParameter_b62 at h
  refine lv_iconst (v := 1) hx hb d_M_readParameter_62 (by decide) ?_
  refine lv_goto (tgt := 67) hx hb d_M_readParameter_63 (by decide) ?_
  exact w_M_readParameter_67 C n kc hk x1 x3 (1 : Int32) h hW hS (lv_sub hl [0, 1, 2] rfl)
set_option maxHeartbeats 4000000 in
set_option maxRecDepth 100000 in
theorem w_M_readParameter_227 (C : CB p s m args c meth b_M_readParameter "TwoLevelParserModel" 4 none D cA z ac) (n : Nat) {S' : HS} (y0 : Int32) {S : HS} {H : Heap} {locs : List Loc} {ls : Array Slot} (h : f_M_readParameter_b227 n y0 S = some S') (hW : HW D cA z ac E1 ad S H) (hS : va_S (zA z) s.heap H locs) (hl : lv_has ls 4 []) : GW p l e 8 s m args below meth c D cA z ac E1 ad none S' H locs (F0 m 227 ls [.int (y0), .ref (ad 200)]) := by
  obtain ⟨⟨hx, hb, hml, hown, hts⟩, hK, hr, hlo⟩ := id C
  unfold f_M_readParameter_b227 at h
  obtain ⟨r30, S29, eS29, h⟩ := ob2_some h
  refine hx_V (i := 200) (As := [.int (y0)]) (rest := []) C hW hS (s_M_must y0 eS29) km_M_213 kv_M_must ke_M_must kn_M kw_M_must kd_M_must (hW.fx 200 rfl) rfl q_M rfl ⟨by decide, by decide⟩ ⟨Nat.zero_le _, Nat.zero_le _⟩ rfl hl.1 rfl (Nat.le_of_ble_eq_true rfl) d_M_readParameter_227 (fun H locs hW hS => ?_)
  refine lv_pop hx hb d_M_readParameter_230 rfl ?_
  have h := Option.some.inj h
  subst h
  exact he_v C hW hS d_M_readParameter_231
set_option maxHeartbeats 4000000 in
set_option maxRecDepth 100000 in
theorem w_M_readParameter_191 (C : CB p s m args c meth b_M_readParameter "TwoLevelParserModel" 4 none D cA z ac) (n : Nat) {S' : HS} (x1 : Int32) (y0 : Int32) (y1 : Int32) {S : HS} {H : Heap} {locs : List Loc} {ls : Array Slot} (h : f_M_readParameter_b191 n x1 y0 y1 S = some S') (hW : HW D cA z ac E1 ad S H) (hS : va_S (zA z) s.heap H locs) (hl : lv_has ls 4 [(0, .ref (ad 200)), (1, .int (x1))]) : GW p l e 8 s m args below meth c D cA z ac E1 ad none S' H locs (F0 m 191 ls [.int (y0), .int (y1), .ref (ad 218)]) := by
  obtain ⟨⟨hx, hb, hml, hown, hts⟩, hK, hr, hlo⟩ := id C
  unfold f_M_readParameter_b191 at h
  obtain ⟨g23, h⟩ := gd_some h
  obtain ⟨S24, eS24, h⟩ := lt_some h
  refine hs_i C hW hS 218 (hW.fx 218 rfl) rfl rfl g23 eS24 d_M_readParameter_191 (fun H locs hW hS => ?_)
  refine lv_aload_n hx hb d_M_readParameter_192 rfl (lv_at hl 0 rfl) ?_
  refine hg_r (j := 213) C hW 200 13 (hW.fx 200 rfl) rfl q_M (by decide) rfl (hW.fn (E := E1) (i := 200) (k := 13) rfl) (lkF C kf_M_24) d_M_readParameter_193 ?_
  refine lv_iload_n hx hb d_M_readParameter_196 rfl (lv_at hl 1 rfl) ?_
  refine lv_dup2_11 hx hb d_M_readParameter_197 rfl rfl ?_
  obtain ⟨g25, h⟩ := gd_some h
  refine ha_i C hW 213 (hW.fx 213 rfl) rfl rfl g25 d_M_readParameter_198 ?_
  refine lv_iconst (v := 1) hx hb d_M_readParameter_199 (by decide) ?_
  refine lv_iadd hx hb d_M_readParameter_200 ?_
  obtain ⟨g26, h⟩ := gd_some h
  obtain ⟨S27, eS27, h⟩ := lt_some h
  refine hs_i C hW hS 213 (hW.fx 213 rfl) rfl rfl g26 eS27 d_M_readParameter_201 (fun H locs hW hS => ?_)
  refine lv_aload_n hx hb d_M_readParameter_202 rfl (lv_at hl 0 rfl) ?_
  refine hg_i C hW 200 3 (hW.fx 200 rfl) rfl q_M (by decide) rfl (lkF C kf_M_83) d_M_readParameter_203 ?_
  refine lv_if_ne (tgt := 231) hx hb d_M_readParameter_206 (by decide) (fun c206 => ?_) (fun c206 => ?_)
  · have h := ite_f c206 h
    have h := Option.some.inj h
    subst h
    exact he_v C hW hS d_M_readParameter_231
  · have h := ite_t c206 h
    refine lv_aload_n hx hb d_M_readParameter_209 rfl (lv_at hl 0 rfl) ?_
    obtain ⟨S28, eS28, h⟩ := ob_some h
    refine hx_V (i := 200) (As := []) (rest := []) C hW hS (s_M_next n eS28) km_M_232 kv_M_next ke_M_next kn_M kw_M_next kd_M_next (hW.fx 200 rfl) rfl q_M rfl ⟨by decide, by decide⟩ ⟨Nat.zero_le _, Nat.zero_le _⟩ rfl hl.1 rfl (Nat.le_of_ble_eq_true rfl) d_M_readParameter_210 (fun H locs hW hS => ?_)
    refine lv_aload_n hx hb d_M_readParameter_213 rfl (lv_at hl 0 rfl) ?_
    refine lv_aload_n hx hb d_M_readParameter_214 rfl (lv_at hl 0 rfl) ?_
    refine hg_i C hW 200 6 (hW.fx 200 rfl) rfl q_M (by decide) rfl (lkF C kf_M_99) d_M_readParameter_215 ?_
    refine lv_iconst (v := 1) hx hb d_M_readParameter_218 (by decide) ?_
    refine lv_icmp_ne (tgt := 226) hx hb d_M_readParameter_219 (by decide) (fun c219 => ?_) (fun c219 => ?_)
    · have h := ite_f c219 h
      refine lv_iconst (v := 0) hx hb d_M_readParameter_226 (by decide) ?_
      exact w_M_readParameter_227 C n (0 : Int32) h hW hS (lv_sub hl [] rfl)
    · have h := ite_t c219 h
      refine lv_iconst (v := 1) hx hb d_M_readParameter_222 (by decide) ?_
      refine lv_goto (tgt := 227) hx hb d_M_readParameter_223 (by decide) ?_
      exact w_M_readParameter_227 C n (1 : Int32) h hW hS (lv_sub hl [] rfl)
set_option maxHeartbeats 4000000 in
set_option maxRecDepth 100000 in
theorem w_M_readParameter_154 (C : CB p s m args c meth b_M_readParameter "TwoLevelParserModel" 4 none D cA z ac) (n : Nat) {S' : HS} (x1 : Int32) (y0 : Int32) {S : HS} {H : Heap} {locs : List Loc} {ls : Array Slot} (h : f_M_readParameter_b154 n x1 y0 S = some S') (hW : HW D cA z ac E1 ad S H) (hS : va_S (zA z) s.heap H locs) (hl : lv_has ls 4 [(0, .ref (ad 200)), (1, .int (x1))]) : GW p l e 8 s m args below meth c D cA z ac E1 ad none S' H locs (F0 m 154 ls [.int (y0), .ref (ad 200)]) := by
  obtain ⟨⟨hx, hb, hml, hown, hts⟩, hK, hr, hlo⟩ := id C
  unfold f_M_readParameter_b154 at h
  obtain ⟨r20, S19, eS19, h⟩ := ob2_some h
  refine hx_V (i := 200) (As := [.int (y0)]) (rest := []) C hW hS (s_M_must y0 eS19) km_M_213 kv_M_must ke_M_must kn_M kw_M_must kd_M_must (hW.fx 200 rfl) rfl q_M rfl ⟨by decide, by decide⟩ ⟨Nat.zero_le _, Nat.zero_le _⟩ rfl hl.1 rfl (Nat.le_of_ble_eq_true rfl) d_M_readParameter_154 (fun H locs hW hS => ?_)
  refine lv_pop hx hb d_M_readParameter_157 rfl ?_
  refine lv_aload_n hx hb d_M_readParameter_158 rfl (lv_at hl 0 rfl) ?_
  refine hg_r (j := 218) C hW 200 18 (hW.fx 200 rfl) rfl q_M (by decide) rfl (hW.fn (E := E1) (i := 200) (k := 18) rfl) (lkF C kf_M_40) d_M_readParameter_159 ?_
  refine lv_bipush (v := 8) hx hb d_M_readParameter_162 (by decide) ?_
  refine lv_iload_n hx hb d_M_readParameter_164 rfl (lv_at hl 1 rfl) ?_
  refine lv_imul hx hb d_M_readParameter_165 ?_
  refine lv_aload_n hx hb d_M_readParameter_166 rfl (lv_at hl 0 rfl) ?_
  refine hg_r (j := 213) C hW 200 13 (hW.fx 200 rfl) rfl q_M (by decide) rfl (hW.fn (E := E1) (i := 200) (k := 13) rfl) (lkF C kf_M_24) d_M_readParameter_167 ?_
  refine lv_iload_n hx hb d_M_readParameter_170 rfl (lv_at hl 1 rfl) ?_
  obtain ⟨g21, h⟩ := gd_some h
  refine ha_i C hW 213 (hW.fx 213 rfl) rfl rfl g21 d_M_readParameter_171 ?_
  refine lv_bipush (v := 7) hx hb d_M_readParameter_172 (by decide) ?_
  refine lv_iand hx hb d_M_readParameter_174 ?_
  refine lv_iadd hx hb d_M_readParameter_175 ?_
  refine lv_aload_n hx hb d_M_readParameter_176 rfl (lv_at hl 0 rfl) ?_
  refine hg_i C hW 200 3 (hW.fx 200 rfl) rfl q_M (by decide) rfl (lkF C kf_M_83) d_M_readParameter_177 ?_
  refine lv_if_le (tgt := 187) hx hb d_M_readParameter_180 (by decide) (fun c180 => ?_) (fun c180 => ?_)
  · have h := ite_t c180 h
    refine lv_aload_n hx hb d_M_readParameter_187 rfl (lv_at hl 0 rfl) ?_
    obtain ⟨r22, er22, h⟩ := ob_some h
    refine hx_V (i := 200) (As := []) (rest := [.int ((((8 : Int32) * x1) + ((gF S19 213 x1.toNatClampNeg) &&& (7 : Int32)))), .ref (ad 218)]) C hW hS (s_M_type n er22) km_M_189 kv_M_type ke_M_type kn_M kw_M_type kd_M_type (hW.fx 200 rfl) rfl q_M rfl ⟨by decide, by decide⟩ ⟨Nat.zero_le _, Nat.zero_le _⟩ rfl hl.1 rfl (Nat.le_of_ble_eq_true rfl) d_M_readParameter_188 (fun H locs hW hS => ?_)
    exact w_M_readParameter_191 C n x1 r22 (((8 : Int32) * x1) + ((gF S19 213 x1.toNatClampNeg) &&& (7 : Int32))) h hW hS (lv_sub hl [0, 1] rfl)
  · have h := ite_f c180 h
    refine lv_iconst (v := 0) hx hb d_M_readParameter_183 (by decide) ?_
    refine lv_goto (tgt := 191) hx hb d_M_readParameter_184 (by decide) ?_
    exact w_M_readParameter_191 C n x1 (0 : Int32) (((8 : Int32) * x1) + ((gF S19 213 x1.toNatClampNeg) &&& (7 : Int32))) h hW hS (lv_sub hl [0, 1] rfl)
set_option maxHeartbeats 4000000 in
set_option maxRecDepth 100000 in
theorem w_M_readParameter_149 (C : CB p s m args c meth b_M_readParameter "TwoLevelParserModel" 4 none D cA z ac) (n : Nat) {S' : HS} (x1 : Int32) {S : HS} {H : Heap} {locs : List Loc} {ls : Array Slot} (h : f_M_readParameter_b149 n x1 S = some S') (hW : HW D cA z ac E1 ad S H) (hS : va_S (zA z) s.heap H locs) (hl : lv_has ls 4 [(0, .ref (ad 200)), (1, .int (x1))]) : GW p l e 8 s m args below meth c D cA z ac E1 ad none S' H locs (F0 m 149 ls [.ref (ad 200)]) := by
  obtain ⟨⟨hx, hb, hml, hown, hts⟩, hK, hr, hlo⟩ := id C
  unfold f_M_readParameter_b149 at h
  refine lv_iconst (v := 1) hx hb d_M_readParameter_149 (by decide) ?_
  refine lv_goto (tgt := 154) hx hb d_M_readParameter_150 (by decide) ?_
  exact w_M_readParameter_154 C n x1 (1 : Int32) h hW hS (lv_sub hl [0, 1] rfl)
set_option maxHeartbeats 4000000 in
set_option maxRecDepth 100000 in
theorem w_M_readParameter_98 (C : CB p s m args c meth b_M_readParameter "TwoLevelParserModel" 4 none D cA z ac) (n : Nat) {S' : HS} (x1 : Int32) (y0 : Int32) {S : HS} {H : Heap} {locs : List Loc} {ls : Array Slot} (h : f_M_readParameter_b98 n x1 y0 S = some S') (hW : HW D cA z ac E1 ad S H) (hS : va_S (zA z) s.heap H locs) (hl : lv_has ls 4 [(0, .ref (ad 200)), (1, .int (x1))]) : GW p l e 8 s m args below meth c D cA z ac E1 ad none S' H locs (F0 m 98 ls [.int (y0), .ref (ad 200)]) := by
  obtain ⟨⟨hx, hb, hml, hown, hts⟩, hK, hr, hlo⟩ := id C
  unfold f_M_readParameter_b98 at h
  obtain ⟨r13, S12, eS12, h⟩ := ob2_some h
  refine hx_V (i := 200) (As := [.int (y0)]) (rest := []) C hW hS (s_M_must y0 eS12) km_M_213 kv_M_must ke_M_must kn_M kw_M_must kd_M_must (hW.fx 200 rfl) rfl q_M rfl ⟨by decide, by decide⟩ ⟨Nat.zero_le _, Nat.zero_le _⟩ rfl hl.1 rfl (Nat.le_of_ble_eq_true rfl) d_M_readParameter_98 (fun H locs hW hS => ?_)
  refine lv_pop hx hb d_M_readParameter_101 rfl ?_
  refine lv_aload_n hx hb d_M_readParameter_102 rfl (lv_at hl 0 rfl) ?_
  refine hg_i C hW 200 3 (hW.fx 200 rfl) rfl q_M (by decide) rfl (lkF C kf_M_83) d_M_readParameter_103 ?_
  refine lv_if_le (tgt := 110) hx hb d_M_readParameter_106 (by decide) (fun c106 => ?_) (fun c106 => ?_)
  · have h := ite_t c106 h
    refine lv_aload_n hx hb d_M_readParameter_110 rfl (lv_at hl 0 rfl) ?_
    refine hg_r (j := 217) C hW 200 17 (hW.fx 200 rfl) rfl q_M (by decide) rfl (hW.fn (E := E1) (i := 200) (k := 17) rfl) (lkF C kf_M_37) d_M_readParameter_111 ?_
    refine lv_bipush (v := 8) hx hb d_M_readParameter_114 (by decide) ?_
    refine lv_iload_n hx hb d_M_readParameter_116 rfl (lv_at hl 1 rfl) ?_
    refine lv_imul hx hb d_M_readParameter_117 ?_
    refine lv_aload_n hx hb d_M_readParameter_118 rfl (lv_at hl 0 rfl) ?_
    refine hg_r (j := 213) C hW 200 13 (hW.fx 200 rfl) rfl q_M (by decide) rfl (hW.fn (E := E1) (i := 200) (k := 13) rfl) (lkF C kf_M_24) d_M_readParameter_119 ?_
    refine lv_iload_n hx hb d_M_readParameter_122 rfl (lv_at hl 1 rfl) ?_
    obtain ⟨g14, h⟩ := gd_some h
    refine ha_i C hW 213 (hW.fx 213 rfl) rfl rfl g14 d_M_readParameter_123 ?_
    refine lv_iadd hx hb d_M_readParameter_124 ?_
    refine lv_aload_n hx hb d_M_readParameter_125 rfl (lv_at hl 0 rfl) ?_
    refine hg_l C hW 200 8 (hW.fx 200 rfl) rfl q_M (by decide) rfl (lkF C kf_M_115) d_M_readParameter_126 ?_
    obtain ⟨g15, h⟩ := gd_some h
    obtain ⟨S16, eS16, h⟩ := lt_some h
    refine hs_l C hW hS 217 (hW.fx 217 rfl) rfl rfl g15 eS16 d_M_readParameter_129 (fun H locs hW hS => ?_)
    refine lv_aload_n hx hb d_M_readParameter_130 rfl (lv_at hl 0 rfl) ?_
    obtain ⟨S17, eS17, h⟩ := ob_some h
    refine hx_V (i := 200) (As := []) (rest := []) C hW hS (s_M_next n eS17) km_M_232 kv_M_next ke_M_next kn_M kw_M_next kd_M_next (hW.fx 200 rfl) rfl q_M rfl ⟨by decide, by decide⟩ ⟨Nat.zero_le _, Nat.zero_le _⟩ rfl hl.1 rfl (Nat.le_of_ble_eq_true rfl) d_M_readParameter_131 (fun H locs hW hS => ?_)
    refine lv_aload_n hx hb d_M_readParameter_134 rfl (lv_at hl 0 rfl) ?_
    refine lv_aload_n hx hb d_M_readParameter_135 rfl (lv_at hl 0 rfl) ?_
    refine hg_i C hW 200 3 (hW.fx 200 rfl) rfl q_M (by decide) rfl (lkF C kf_M_83) d_M_readParameter_136 ?_
    refine lv_if_gt (tgt := 149) hx hb d_M_readParameter_139 (by decide) (fun c139 => ?_) (fun c139 => ?_)
    · have h := ite_t c139 h
      exact w_M_readParameter_149 C n x1 h hW hS (lv_sub hl [0, 1] rfl)
    · have h := ite_f c139 h
      refine lv_aload_n hx hb d_M_readParameter_142 rfl (lv_at hl 0 rfl) ?_
      obtain ⟨r18, er18, h⟩ := ob_some h
      refine hx_V (i := 200) (As := []) (rest := [.ref (ad 200)]) C hW hS (s_M_type n er18) km_M_189 kv_M_type ke_M_type kn_M kw_M_type kd_M_type (hW.fx 200 rfl) rfl q_M rfl ⟨by decide, by decide⟩ ⟨Nat.zero_le _, Nat.zero_le _⟩ rfl hl.1 rfl (Nat.le_of_ble_eq_true rfl) d_M_readParameter_143 (fun H locs hW hS => ?_)
      refine lv_if_lt (tgt := 153) hx hb d_M_readParameter_146 (by decide) (fun c146 => ?_) (fun c146 => ?_)
      · have h := ite_t c146 h
        refine lv_iconst (v := 0) hx hb d_M_readParameter_153 (by decide) ?_
        exact w_M_readParameter_154 C n x1 (0 : Int32) h hW hS (lv_sub hl [0, 1] rfl)
      · have h := ite_f c146 h
        exact w_M_readParameter_149 C n x1 h hW hS (lv_sub hl [0, 1] rfl)
  · have h := ite_f c106 h
    have h := Option.some.inj h
    subst h
    exact he_v C hW hS d_M_readParameter_109
set_option maxHeartbeats 4000000 in
set_option maxRecDepth 100000 in
theorem w_M_readParameter_93 (C : CB p s m args c meth b_M_readParameter "TwoLevelParserModel" 4 none D cA z ac) (n : Nat) {S' : HS} (x1 : Int32) {S : HS} {H : Heap} {locs : List Loc} {ls : Array Slot} (h : f_M_readParameter_b93 n x1 S = some S') (hW : HW D cA z ac E1 ad S H) (hS : va_S (zA z) s.heap H locs) (hl : lv_has ls 4 [(0, .ref (ad 200)), (1, .int (x1))]) : GW p l e 8 s m args below meth c D cA z ac E1 ad none S' H locs (F0 m 93 ls [.ref (ad 200)]) := by
  obtain ⟨⟨hx, hb, hml, hown, hts⟩, hK, hr, hlo⟩ := id C
  unfold f_M_readParameter_b93 at h
  refine lv_iconst (v := 1) hx hb d_M_readParameter_93 (by decide) ?_
  refine lv_goto (tgt := 98) hx hb d_M_readParameter_94 (by decide) ?_
  exact w_M_readParameter_98 C n x1 (1 : Int32) h hW hS (lv_sub hl [0, 1] rfl)
set_option maxHeartbeats 4000000 in
set_option maxRecDepth 100000 in
theorem w_M_readParameter_97 (C : CB p s m args c meth b_M_readParameter "TwoLevelParserModel" 4 none D cA z ac) (n : Nat) {S' : HS} (x1 : Int32) {S : HS} {H : Heap} {locs : List Loc} {ls : Array Slot} (h : f_M_readParameter_b97 n x1 S = some S') (hW : HW D cA z ac E1 ad S H) (hS : va_S (zA z) s.heap H locs) (hl : lv_has ls 4 [(0, .ref (ad 200)), (1, .int (x1))]) : GW p l e 8 s m args below meth c D cA z ac E1 ad none S' H locs (F0 m 97 ls [.ref (ad 200)]) := by
  obtain ⟨⟨hx, hb, hml, hown, hts⟩, hK, hr, hlo⟩ := id C
  unfold f_M_readParameter_b97 at h
  refine lv_iconst (v := 0) hx hb d_M_readParameter_97 (by decide) ?_
  exact w_M_readParameter_98 C n x1 (0 : Int32) h hW hS (lv_sub hl [0, 1] rfl)
set_option maxHeartbeats 4000000 in
set_option maxRecDepth 100000 in
theorem w_M_readParameter_29B (C : CB p s m args c meth b_M_readParameter "TwoLevelParserModel" 4 none D cA z ac) (n : Nat) (kc : Int32 → Int32 → Int32 → HS → Option HS) {S' : HS} (hk : ∀ (x1 : Int32) (x2 : Int32) (x3 : Int32) (S : HS) {H : Heap} {locs : List Loc} {ls : Array Slot}, kc x1 x2 x3 S = some S' → HW D cA z ac E1 ad S H → va_S (zA z) s.heap H locs → lv_has ls 4 [(0, .ref (ad 200)), (1, .int (x1)), (2, .int (x2)), (3, .int (x3))] → GW p l e 8 s m args below meth c D cA z ac E1 ad none S' H locs (F0 m 29 ls [])) (x1 : Int32) (x2 : Int32) (x3 : Int32) {S : HS} {H : Heap} {locs : List Loc} {ls : Array Slot} (h : f_M_readParameter_b29B n kc x1 x2 x3 S = some S') (hW : HW D cA z ac E1 ad S H) (hS : va_S (zA z) s.heap H locs) (hl : lv_has ls 4 [(0, .ref (ad 200)), (1, .int (x1)), (2, .int (x2)), (3, .int (x3))]) : GW p l e 8 s m args below meth c D cA z ac E1 ad none S' H locs (F0 m 29 ls []) := by
  obtain ⟨⟨hx, hb, hml, hown, hts⟩, hK, hr, hlo⟩ := id C
  unfold f_M_readParameter_b29B at h
  refine lv_iload_n hx hb d_M_readParameter_29 rfl (lv_at hl 3 rfl) ?_
  refine lv_aload_n hx hb d_M_readParameter_30 rfl (lv_at hl 0 rfl) ?_
  refine hg_r (j := 213) C hW 200 13 (hW.fx 200 rfl) rfl q_M (by decide) rfl (hW.fn (E := E1) (i := 200) (k := 13) rfl) (lkF C kf_M_24) d_M_readParameter_31 ?_
  refine lv_iload_n hx hb d_M_readParameter_34 rfl (lv_at hl 1 rfl) ?_
  obtain ⟨g7, h⟩ := gd_some h
  refine ha_i C hW 213 (hW.fx 213 rfl) rfl rfl g7 d_M_readParameter_35 ?_
  refine lv_icmp_ge (tgt := 74) hx hb d_M_readParameter_36 (by decide) (fun c36 => ?_) (fun c36 => ?_)
  · have h := ite_t c36 h
    refine lv_aload_n hx hb d_M_readParameter_74 rfl (lv_at hl 0 rfl) ?_
    refine lv_aload_n hx hb d_M_readParameter_75 rfl (lv_at hl 0 rfl) ?_
    refine hg_i C hW 200 3 (hW.fx 200 rfl) rfl q_M (by decide) rfl (lkF C kf_M_83) d_M_readParameter_76 ?_
    refine lv_if_gt (tgt := 93) hx hb d_M_readParameter_79 (by decide) (fun c79 => ?_) (fun c79 => ?_)
    · have h := ite_t c79 h
      exact w_M_readParameter_93 C n x1 h hW hS (lv_sub hl [0, 1] rfl)
    · have h := ite_f c79 h
      refine lv_aload_n hx hb d_M_readParameter_82 rfl (lv_at hl 0 rfl) ?_
      obtain ⟨r8, er8, h⟩ := ob_some h
      refine hx_V (i := 200) (As := []) (rest := [.ref (ad 200)]) C hW hS (s_M_isOwn n er8) km_M_224 kv_M_isOwn ke_M_isOwn kn_M kw_M_isOwn kd_M_isOwn (hW.fx 200 rfl) rfl q_M rfl ⟨by decide, by decide⟩ ⟨Nat.zero_le _, Nat.zero_le _⟩ rfl hl.1 rfl (Nat.le_of_ble_eq_true rfl) d_M_readParameter_83 (fun H locs hW hS => ?_)
      refine lv_if_eq (tgt := 97) hx hb d_M_readParameter_86 (by decide) (fun c86 => ?_) (fun c86 => ?_)
      · have h := ite_t c86 h
        exact w_M_readParameter_97 C n x1 h hW hS (lv_sub hl [0, 1] rfl)
      · have h := ite_f c86 h
        refine lv_iload_n hx hb d_M_readParameter_89 rfl (lv_at hl 2 rfl) ?_
        refine lv_if_ne (tgt := 97) hx hb d_M_readParameter_90 (by decide) (fun c90 => ?_) (fun c90 => ?_)
        · have h := ite_f c90 h
          exact w_M_readParameter_97 C n x1 h hW hS (lv_sub hl [0, 1] rfl)
        · have h := ite_t c90 h
          exact w_M_readParameter_93 C n x1 h hW hS (lv_sub hl [0, 1] rfl)
  · have h := ite_f c36 h
    refine lv_iload_n hx hb d_M_readParameter_39 rfl (lv_at hl 2 rfl) ?_
    refine lv_if_ne (tgt := 62) hx hb d_M_readParameter_40 (by decide) (fun c40 => ?_) (fun c40 => ?_)
    · have h := ite_f c40 h
      exact w_M_readParameter_62 C n kc hk x1 x3 h hW hS (lv_sub hl [0, 1, 3] rfl)
    · have h := ite_t c40 h
      refine lv_aload_n hx hb d_M_readParameter_43 rfl (lv_at hl 0 rfl) ?_
      refine hg_r (j := 217) C hW 200 17 (hW.fx 200 rfl) rfl q_M (by decide) rfl (hW.fn (E := E1) (i := 200) (k := 17) rfl) (lkF C kf_M_37) d_M_readParameter_44 ?_
      refine lv_bipush (v := 8) hx hb d_M_readParameter_47 (by decide) ?_
      refine lv_iload_n hx hb d_M_readParameter_49 rfl (lv_at hl 1 rfl) ?_
      refine lv_imul hx hb d_M_readParameter_50 ?_
      refine lv_iload_n hx hb d_M_readParameter_51 rfl (lv_at hl 3 rfl) ?_
      refine lv_iadd hx hb d_M_readParameter_52 ?_
      obtain ⟨g9, h⟩ := gd_some h
      refine ha_l C hW 217 (hW.fx 217 rfl) rfl rfl g9 d_M_readParameter_53 ?_
      refine lv_aload_n hx hb d_M_readParameter_54 rfl (lv_at hl 0 rfl) ?_
      refine hg_l C hW 200 8 (hW.fx 200 rfl) rfl q_M (by decide) rfl (lkF C kf_M_115) d_M_readParameter_55 ?_
      refine W.lcmp hx hb d_M_readParameter_58 ?_
      refine lv_if_ne (tgt := 66) hx hb d_M_readParameter_59 (by decide) (fun c59 => ?_) (fun c59 => ?_)
      · have h := ite_f c59 h
        refine lv_iconst (v := 0) hx hb d_M_readParameter_66 (by decide) ?_
        exact w_M_readParameter_67 C n kc hk x1 x3 (0 : Int32) h hW hS (lv_sub hl [0, 1, 3] rfl)
      · have h := ite_t c59 h
        exact w_M_readParameter_62 C n kc hk x1 x3 h hW hS (lv_sub hl [0, 1, 3] rfl)
set_option maxHeartbeats 4000000 in
set_option maxRecDepth 100000 in
theorem w_M_readParameter_29 (C : CB p s m args c meth b_M_readParameter "TwoLevelParserModel" 4 none D cA z ac) (n : Nat) (k : Nat) {S' : HS} : ∀ (x1 : Int32) (x2 : Int32) (x3 : Int32) {S : HS} {H : Heap} {locs : List Loc} {ls : Array Slot}, f_M_readParameter_b29 n k x1 x2 x3 S = some S' → HW D cA z ac E1 ad S H → va_S (zA z) s.heap H locs → lv_has ls 4 [(0, .ref (ad 200)), (1, .int (x1)), (2, .int (x2)), (3, .int (x3))] → GW p l e 8 s m args below meth c D cA z ac E1 ad none S' H locs (F0 m 29 ls []) := by
  induction k with
  | zero => intro x1 x2 x3 S H locs ls h; cases h
  | succ k ih => intro x1 x2 x3 S H locs ls h hW hS hl; exact w_M_readParameter_29B C n (f_M_readParameter_b29 n k) (fun x1 x2 x3 S H locs ls h hW hS hl => ih x1 x2 x3 h hW hS hl) x1 x2 x3 h hW hS hl
set_option maxHeartbeats 4000000 in
set_option maxRecDepth 100000 in
theorem w_M_readParameter_17 (C : CB p s m args c meth b_M_readParameter "TwoLevelParserModel" 4 none D cA z ac) (n : Nat) {S' : HS} (x1 : Int32) (y0 : Int32) {S : HS} {H : Heap} {locs : List Loc} {ls : Array Slot} (h : f_M_readParameter_b17 n x1 y0 S = some S') (hW : HW D cA z ac E1 ad S H) (hS : va_S (zA z) s.heap H locs) (hl : lv_has ls 4 [(0, .ref (ad 200)), (1, .int (x1))]) : GW p l e 8 s m args below meth c D cA z ac E1 ad none S' H locs (F0 m 17 ls [.int (y0), .ref (ad 200)]) := by
  obtain ⟨⟨hx, hb, hml, hown, hts⟩, hK, hr, hlo⟩ := id C
  unfold f_M_readParameter_b17 at h
  obtain ⟨r3, S2, eS2, h⟩ := ob2_some h
  refine hx_V (i := 200) (As := [.int (y0)]) (rest := []) C hW hS (s_M_must y0 eS2) km_M_213 kv_M_must ke_M_must kn_M kw_M_must kd_M_must (hW.fx 200 rfl) rfl q_M rfl ⟨by decide, by decide⟩ ⟨Nat.zero_le _, Nat.zero_le _⟩ rfl hl.1 rfl (Nat.le_of_ble_eq_true rfl) d_M_readParameter_17 (fun H locs hW hS => ?_)
  refine lv_pop hx hb d_M_readParameter_20 rfl ?_
  refine lv_aload_n hx hb d_M_readParameter_21 rfl (lv_at hl 0 rfl) ?_
  obtain ⟨S4, eS4, h⟩ := ob_some h
  refine hx_V (i := 200) (As := []) (rest := []) C hW hS (s_M_next n eS4) km_M_232 kv_M_next ke_M_next kn_M kw_M_next kd_M_next (hW.fx 200 rfl) rfl q_M rfl ⟨by decide, by decide⟩ ⟨Nat.zero_le _, Nat.zero_le _⟩ rfl hl.1 rfl (Nat.le_of_ble_eq_true rfl) d_M_readParameter_22 (fun H locs hW hS => ?_)
  refine lv_iconst (v := 0) hx hb d_M_readParameter_25 (by decide) ?_
  obtain ⟨v5, ev5, h⟩ := lt_some h
  refine lt_i_n (lv' := [(2, .int (v5)), (0, .ref (ad 200)), (1, .int (x1))]) C d_M_readParameter_26 rfl hl (by decide) ev5 rfl (fun ls hl => ?_)
  refine lv_iconst (v := 0) hx hb d_M_readParameter_27 (by decide) ?_
  obtain ⟨v6, ev6, h⟩ := lt_some h
  refine lt_i_n (lv' := [(3, .int (v6)), (2, .int (v5)), (0, .ref (ad 200)), (1, .int (x1))]) C d_M_readParameter_28 rfl hl (by decide) ev6 rfl (fun ls hl => ?_)
  exact w_M_readParameter_29 C n n x1 v5 v6 h hW hS (lv_sub hl [2, 3, 1, 0] rfl)
set_option maxHeartbeats 4000000 in
set_option maxRecDepth 100000 in
theorem s_M_readParameter (n : Nat) (x1 : Int32) {S : HS} {S' : HS} (h : f_M_readParameter n x1 S = some S') : Met l y_M_readParameter (.code y_M_readParameter b_M_readParameter 4 none :: lw_g) (rmD 8 0 0) (PcH D cA z ac E1 ad [.ref (ad 200), .int (x1)] S) (QN D cA z ac E1 ad none S') 0 0 (zA z) := by
  refine Met.ofH (own := "TwoLevelParserModel") (by decide) rfl (Nat.le_of_ble_eq_true rfl) ?_
  intro p e s m args below meth c H ls C hW hS hl
  have hl : lv_has ls 4 [(0, .ref (ad 200)), (1, .int (x1))] := hl
  obtain ⟨⟨hx, hb, hml, hown, hts⟩, hK, hr, hlo⟩ := id C
  unfold f_M_readParameter at h
  refine lv_aload_n hx hb d_M_readParameter_0 rfl (lv_at hl 0 rfl) ?_
  refine lv_aload_n hx hb d_M_readParameter_1 rfl (lv_at hl 0 rfl) ?_
  refine hg_r (j := 213) C hW 200 13 (hW.fx 200 rfl) rfl q_M (by decide) rfl (hW.fn (E := E1) (i := 200) (k := 13) rfl) (lkF C kf_M_24) d_M_readParameter_2 ?_
  refine lv_iload_n hx hb d_M_readParameter_5 rfl (lv_at hl 1 rfl) ?_
  obtain ⟨g1, h⟩ := gd_some h
  refine ha_i C hW 213 (hW.fx 213 rfl) rfl rfl g1 d_M_readParameter_6 ?_
  refine lv_bipush (v := 8) hx hb d_M_readParameter_7 (by decide) ?_
  refine lv_icmp_ge (tgt := 16) hx hb d_M_readParameter_9 (by decide) (fun c9 => ?_) (fun c9 => ?_)
  · have h := ite_t c9 h
    refine lv_iconst (v := 0) hx hb d_M_readParameter_16 (by decide) ?_
    exact w_M_readParameter_17 C n x1 (0 : Int32) h hW hS (lv_sub hl [0, 1] rfl)
  · have h := ite_f c9 h
    refine lv_iconst (v := 1) hx hb d_M_readParameter_12 (by decide) ?_
    refine lv_goto (tgt := 17) hx hb d_M_readParameter_13 (by decide) ?_
    exact w_M_readParameter_17 C n x1 (1 : Int32) h hW hS (lv_sub hl [0, 1] rfl)
end WK
