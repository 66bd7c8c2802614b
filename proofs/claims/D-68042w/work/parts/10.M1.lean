-- printed by gen/walk.py
def f_M_push (x1 : Int32) (x2 : Int32) (S : HS) : Option HS :=
  gd (inR (gF S 200 31) 33000) <|
  lt (sF S 229 (gF S 200 31).toNatClampNeg ((x1.toInt8.toInt32).toInt8.toInt32)) fun S2 =>
  gd (inR (gF S2 200 31) 33000) <|
  lt (sF S2 230 (gF S2 200 31).toNatClampNeg x2) fun S4 =>
  lt (sF S4 200 31 ((gF S4 200 31) + (1 : Int32))) fun S5 =>
  some S5
section WK
variable {p : Program} {l : Launch} {e : Env} {s : State} {m : MethodId} {args : Array Value} {below : List Frame} {meth : Method} {c : Code} {D : va_G} {cA : Nat → ClassId} {z : Nat} {ac : Nat → Nat} {ad : Nat → Nat}
set_option maxHeartbeats 4000000 in
set_option maxRecDepth 100000 in
theorem s_M_push (x1 : Int32) (x2 : Int32) {S : HS} {S' : HS} (h : f_M_push x1 x2 S = some S') : Met l y_M_push (.code y_M_push b_M_push 3 none :: lw_g) (rmD 0 0 0) (PcH D cA z ac E1 ad [.ref (ad 200), .int (x1), .int (x2)] S) (QN D cA z ac E1 ad none S') 0 0 (zA z) := by
  refine Met.ofH (own := "TwoLevelParserModel") (by decide) rfl (Nat.le_of_ble_eq_true rfl) ?_
  intro p e s m args below meth c H ls C hW hS hl
  have hl : lv_has ls 3 [(0, .ref (ad 200)), (1, .int (x1)), (2, .int (x2))] := hl
  obtain ⟨⟨hx, hb, hml, hown, hts⟩, hK, hr, hlo⟩ := id C
  unfold f_M_push at h
  refine lv_aload_n hx hb d_M_push_0 rfl (lv_at hl 0 rfl) ?_
  refine hg_r (j := 229) C hW 200 29 (hW.fx 200 rfl) rfl q_M (by decide) rfl (hW.fn (E := E1) (i := 200) (k := 29) rfl) (lkF C kf_M_71) d_M_push_1 ?_
  refine lv_aload_n hx hb d_M_push_4 rfl (lv_at hl 0 rfl) ?_
  refine hg_i C hW 200 31 (hW.fx 200 rfl) rfl q_M (by decide) rfl (lkF C kf_M_204) d_M_push_5 ?_
  refine lv_iload_n hx hb d_M_push_8 rfl (lv_at hl 1 rfl) ?_
  refine lv_i2b (v := x1.toInt8.toInt32) hx hb d_M_push_9 rfl ?_
  obtain ⟨g1, h⟩ := gd_some h
  obtain ⟨S2, eS2, h⟩ := lt_some h
  refine hs_b C hW hS 229 (hW.fx 229 rfl) rfl rfl g1 rfl eS2 d_M_push_10 (fun H locs hW hS => ?_)
  refine lv_aload_n hx hb d_M_push_11 rfl (lv_at hl 0 rfl) ?_
  refine hg_r (j := 230) C hW 200 30 (hW.fx 200 rfl) rfl q_M (by decide) rfl (hW.fn (E := E1) (i := 200) (k := 30) rfl) (lkF C kf_M_74) d_M_push_12 ?_
  refine lv_aload_n hx hb d_M_push_15 rfl (lv_at hl 0 rfl) ?_
  refine hg_i C hW 200 31 (hW.fx 200 rfl) rfl q_M (by decide) rfl (lkF C kf_M_204) d_M_push_16 ?_
  refine lv_iload_n hx hb d_M_push_19 rfl (lv_at hl 2 rfl) ?_
  obtain ⟨g3, h⟩ := gd_some h
  obtain ⟨S4, eS4, h⟩ := lt_some h
  refine hs_i C hW hS 230 (hW.fx 230 rfl) rfl rfl g3 eS4 d_M_push_20 (fun H locs hW hS => ?_)
  refine lv_aload_n hx hb d_M_push_21 rfl (lv_at hl 0 rfl) ?_
  refine lv_dup hx hb d_M_push_22 rfl ?_
  refine hg_i C hW 200 31 (hW.fx 200 rfl) rfl q_M (by decide) rfl (lkF C kf_M_204) d_M_push_23 ?_
  refine lv_iconst (v := 1) hx hb d_M_push_26 (by decide) ?_
  refine lv_iadd hx hb d_M_push_27 ?_
  obtain ⟨S5, eS5, h⟩ := lt_some h
  refine hp_i C hW hS 200 31 (hW.fx 200 rfl) rfl q_M (by decide) rfl rfl rfl (lkF C kf_M_204) eS5 d_M_push_28 (fun H locs hW hS => ?_)
  have h := Option.some.inj h
  subst h
  exact he_v C hW hS d_M_push_31
end WK
def f_M_wrong (x1 : Int32) (x2 : Int32) (S : HS) : Option HS :=
  (if (gF S 200 3) = 0 then
  lt (sF S 200 3 x1) fun S1 =>
  lt (sF S1 200 4 x2) fun S2 =>
  some S2
  else
  some S)
section WK
variable {p : Program} {l : Launch} {e : Env} {s : State} {m : MethodId} {args : Array Value} {below : List Frame} {meth : Method} {c : Code} {D : va_G} {cA : Nat → ClassId} {z : Nat} {ac : Nat → Nat} {ad : Nat → Nat}
set_option maxHeartbeats 4000000 in
set_option maxRecDepth 100000 in
theorem s_M_wrong (x1 : Int32) (x2 : Int32) {S : HS} {S' : HS} (h : f_M_wrong x1 x2 S = some S') : Met l y_M_wrong (.code y_M_wrong b_M_wrong 3 none :: lw_g) (rmD 0 0 0) (PcH D cA z ac E1 ad [.ref (ad 200), .int (x1), .int (x2)] S) (QN D cA z ac E1 ad none S') 0 0 (zA z) := by
  refine Met.ofH (own := "TwoLevelParserModel") (by decide) rfl (Nat.le_of_ble_eq_true rfl) ?_
  intro p e s m args below meth c H ls C hW hS hl
  have hl : lv_has ls 3 [(0, .ref (ad 200)), (1, .int (x1)), (2, .int (x2))] := hl
  obtain ⟨⟨hx, hb, hml, hown, hts⟩, hK, hr, hlo⟩ := id C
  unfold f_M_wrong at h
  refine lv_aload_n hx hb d_M_wrong_0 rfl (lv_at hl 0 rfl) ?_
  refine hg_i C hW 200 3 (hW.fx 200 rfl) rfl q_M (by decide) rfl (lkF C kf_M_83) d_M_wrong_1 ?_
  refine lv_if_ne (tgt := 17) hx hb d_M_wrong_4 (by decide) (fun c4 => ?_) (fun c4 => ?_)
  · have h := ite_f c4 h
    have h := Option.some.inj h
    subst h
    exact he_v C hW hS d_M_wrong_17
  · have h := ite_t c4 h
    refine lv_aload_n hx hb d_M_wrong_7 rfl (lv_at hl 0 rfl) ?_
    refine lv_iload_n hx hb d_M_wrong_8 rfl (lv_at hl 1 rfl) ?_
    obtain ⟨S1, eS1, h⟩ := lt_some h
    refine hp_i C hW hS 200 3 (hW.fx 200 rfl) rfl q_M (by decide) rfl rfl rfl (lkF C kf_M_83) eS1 d_M_wrong_9 (fun H locs hW hS => ?_)
    refine lv_aload_n hx hb d_M_wrong_12 rfl (lv_at hl 0 rfl) ?_
    refine lv_iload_n hx hb d_M_wrong_13 rfl (lv_at hl 2 rfl) ?_
    obtain ⟨S2, eS2, h⟩ := lt_some h
    refine hp_i C hW hS 200 4 (hW.fx 200 rfl) rfl q_M (by decide) rfl rfl rfl (lkF C kf_M_13) eS2 d_M_wrong_14 (fun H locs hW hS => ?_)
    have h := Option.some.inj h
    subst h
    exact he_v C hW hS d_M_wrong_17
end WK
def f_M_isLetter (x0 : Int32) : Option Int32 :=
  (if x0 < (97 : Int32) then
  some (0 : Int32)
  else
  (if (122 : Int32) < x0 then
  some (0 : Int32)
  else
  some (1 : Int32)))
section WK
variable {p : Program} {l : Launch} {e : Env} {s : State} {m : MethodId} {args : Array Value} {below : List Frame} {meth : Method} {c : Code} {D : va_G} {cA : Nat → ClassId} {z : Nat} {ac : Nat → Nat} {ad : Nat → Nat}
set_option maxHeartbeats 4000000 in
set_option maxRecDepth 100000 in
theorem s_M_isLetter (x0 : Int32) {S : HS} {r : Int32} (h : f_M_isLetter x0 = some r) : Met l y_M_isLetter (.code y_M_isLetter b_M_isLetter 1 (some .boolean) :: lw_g) (rmD 0 0 0) (PcH D cA z ac E1 ad [.int (x0)] S) (QN D cA z ac E1 ad (some (.int r)) S) 0 0 (zA z) := by
  refine Met.ofH (own := "TwoLevelParserModel") (by decide) rfl (Nat.le_of_ble_eq_true rfl) ?_
  intro p e s m args below meth c H ls C hW hS hl
  have hl : lv_has ls 1 [(0, .int (x0))] := hl
  obtain ⟨⟨hx, hb, hml, hown, hts⟩, hK, hr, hlo⟩ := id C
  unfold f_M_isLetter at h
  refine lv_iload_n hx hb d_M_isLetter_0 rfl (lv_at hl 0 rfl) ?_
  refine lv_bipush (v := 97) hx hb d_M_isLetter_1 (by decide) ?_
  refine lv_icmp_lt (tgt := 16) hx hb d_M_isLetter_3 (by decide) (fun c3 => ?_) (fun c3 => ?_)
  · have h := ite_t c3 h
    refine lv_iconst (v := 0) hx hb d_M_isLetter_16 (by decide) ?_
    have h := Option.some.inj h
    subst h
    exact he_z C hW hS (by decide) d_M_isLetter_17
  · have h := ite_f c3 h
    refine lv_iload_n hx hb d_M_isLetter_6 rfl (lv_at hl 0 rfl) ?_
    refine lv_bipush (v := 122) hx hb d_M_isLetter_7 (by decide) ?_
    refine lv_icmp_gt (tgt := 16) hx hb d_M_isLetter_9 (by decide) (fun c9 => ?_) (fun c9 => ?_)
    · have h := ite_t c9 h
      refine lv_iconst (v := 0) hx hb d_M_isLetter_16 (by decide) ?_
      have h := Option.some.inj h
      subst h
      exact he_z C hW hS (by decide) d_M_isLetter_17
    · have h := ite_f c9 h
      refine lv_iconst (v := 1) hx hb d_M_isLetter_12 (by decide) ?_
      refine lv_goto (tgt := 17) hx hb d_M_isLetter_13 (by decide) ?_
      have h := Option.some.inj h
      subst h
      exact he_z C hW hS (by decide) d_M_isLetter_17
end WK
def f_M_isDigit (x0 : Int32) : Option Int32 :=
  (if x0 < (48 : Int32) then
  some (0 : Int32)
  else
  (if (57 : Int32) < x0 then
  some (0 : Int32)
  else
  some (1 : Int32)))
section WK
variable {p : Program} {l : Launch} {e : Env} {s : State} {m : MethodId} {args : Array Value} {below : List Frame} {meth : Method} {c : Code} {D : va_G} {cA : Nat → ClassId} {z : Nat} {ac : Nat → Nat} {ad : Nat → Nat}
set_option maxHeartbeats 4000000 in
set_option maxRecDepth 100000 in
theorem s_M_isDigit (x0 : Int32) {S : HS} {r : Int32} (h : f_M_isDigit x0 = some r) : Met l y_M_isDigit (.code y_M_isDigit b_M_isDigit 1 (some .boolean) :: lw_g) (rmD 0 0 0) (PcH D cA z ac E1 ad [.int (x0)] S) (QN D cA z ac E1 ad (some (.int r)) S) 0 0 (zA z) := by
  refine Met.ofH (own := "TwoLevelParserModel") (by decide) rfl (Nat.le_of_ble_eq_true rfl) ?_
  intro p e s m args below meth c H ls C hW hS hl
  have hl : lv_has ls 1 [(0, .int (x0))] := hl
  obtain ⟨⟨hx, hb, hml, hown, hts⟩, hK, hr, hlo⟩ := id C
  unfold f_M_isDigit at h
  refine lv_iload_n hx hb d_M_isDigit_0 rfl (lv_at hl 0 rfl) ?_
  refine lv_bipush (v := 48) hx hb d_M_isDigit_1 (by decide) ?_
  refine lv_icmp_lt (tgt := 16) hx hb d_M_isDigit_3 (by decide) (fun c3 => ?_) (fun c3 => ?_)
  · have h := ite_t c3 h
    refine lv_iconst (v := 0) hx hb d_M_isDigit_16 (by decide) ?_
    have h := Option.some.inj h
    subst h
    exact he_z C hW hS (by decide) d_M_isDigit_17
  · have h := ite_f c3 h
    refine lv_iload_n hx hb d_M_isDigit_6 rfl (lv_at hl 0 rfl) ?_
    refine lv_bipush (v := 57) hx hb d_M_isDigit_7 (by decide) ?_
    refine lv_icmp_gt (tgt := 16) hx hb d_M_isDigit_9 (by decide) (fun c9 => ?_) (fun c9 => ?_)
    · have h := ite_t c9 h
      refine lv_iconst (v := 0) hx hb d_M_isDigit_16 (by decide) ?_
      have h := Option.some.inj h
      subst h
      exact he_z C hW hS (by decide) d_M_isDigit_17
    · have h := ite_f c9 h
      refine lv_iconst (v := 1) hx hb d_M_isDigit_12 (by decide) ?_
      refine lv_goto (tgt := 17) hx hb d_M_isDigit_13 (by decide) ?_
      have h := Option.some.inj h
      subst h
      exact he_z C hW hS (by decide) d_M_isDigit_17
end WK
def f_M_isRun (x1 : Int32) (S : HS) : Option Int32 :=
  (if (gF S 200 2) ≤ x1 then
  some (0 : Int32)
  else
  gd (inR x1 8192) <|
  ob (f_M_isLetter (gF S 201 x1.toNatClampNeg)) fun r2 =>
  (if r2 = 0 then
  gd (inR x1 8192) <|
  ob (f_M_isDigit (gF S 201 x1.toNatClampNeg)) fun r4 =>
  (if r4 = 0 then
  gd (inR x1 8192) <|
  (if (gF S 201 x1.toNatClampNeg) = (45 : Int32) then
  some (1 : Int32)
  else
  some (0 : Int32))
  else
  some (1 : Int32))
  else
  some (1 : Int32)))
section WK
variable {p : Program} {l : Launch} {e : Env} {s : State} {m : MethodId} {args : Array Value} {below : List Frame} {meth : Method} {c : Code} {D : va_G} {cA : Nat → ClassId} {z : Nat} {ac : Nat → Nat} {ad : Nat → Nat}
set_option maxHeartbeats 4000000 in
set_option maxRecDepth 100000 in
theorem s_M_isRun (x1 : Int32) {S : HS} {r : Int32} (h : f_M_isRun x1 S = some r) : Met l y_M_isRun (.code y_M_isRun b_M_isRun 2 (some .boolean) :: lw_g) (rmD 1 0 0) (PcH D cA z ac E1 ad [.ref (ad 200), .int (x1)] S) (QN D cA z ac E1 ad (some (.int r)) S) 0 0 (zA z) := by
  refine Met.ofH (own := "TwoLevelParserModel") (by decide) rfl (Nat.le_of_ble_eq_true rfl) ?_
  intro p e s m args below meth c H ls C hW hS hl
  have hl : lv_has ls 2 [(0, .ref (ad 200)), (1, .int (x1))] := hl
  obtain ⟨⟨hx, hb, hml, hown, hts⟩, hK, hr, hlo⟩ := id C
  unfold f_M_isRun at h
  refine lv_iload_n hx hb d_M_isRun_0 rfl (lv_at hl 1 rfl) ?_
  refine lv_aload_n hx hb d_M_isRun_1 rfl (lv_at hl 0 rfl) ?_
  refine hg_i C hW 200 2 (hW.fx 200 rfl) rfl q_M (by decide) rfl (lkF C kf_M_80) d_M_isRun_2 ?_
  refine lv_icmp_ge (tgt := 47) hx hb d_M_isRun_5 (by decide) (fun c5 => ?_) (fun c5 => ?_)
  · have h := ite_t c5 h
    refine lv_iconst (v := 0) hx hb d_M_isRun_47 (by decide) ?_
    have h := Option.some.inj h
    subst h
    exact he_z C hW hS (by decide) d_M_isRun_48
  · have h := ite_f c5 h
    refine lv_aload_n hx hb d_M_isRun_8 rfl (lv_at hl 0 rfl) ?_
    refine hg_r (j := 201) C hW 200 1 (hW.fx 200 rfl) rfl q_M (by decide) rfl (hW.fn (E := E1) (i := 200) (k := 1) rfl) (lkF C kf_M_7) d_M_isRun_9 ?_
    refine lv_iload_n hx hb d_M_isRun_12 rfl (lv_at hl 1 rfl) ?_
    obtain ⟨g1, h⟩ := gd_some h
    refine ha_b C hW 201 (hW.fx 201 rfl) rfl rfl g1 d_M_isRun_13 ?_
    obtain ⟨r2, er2, h⟩ := ob_some h
    refine hx_S (As := [.int ((gF S 201 x1.toNatClampNeg))]) (rest := []) C hW hS (s_M_isLetter (gF S 201 x1.toNatClampNeg) er2) km_M_86 kv_M_isLetter kn_M kw_M_isLetter kd_M_isLetter ⟨by decide, by decide⟩ ⟨Nat.zero_le _, Nat.zero_le _⟩ rfl hl.1 rfl (Nat.le_of_ble_eq_true rfl) d_M_isRun_14 (fun H locs hW hS => ?_)
    refine lv_if_ne (tgt := 43) hx hb d_M_isRun_17 (by decide) (fun c17 => ?_) (fun c17 => ?_)
    · have h := ite_f c17 h
      refine lv_iconst (v := 1) hx hb d_M_isRun_43 (by decide) ?_
      refine lv_goto (tgt := 48) hx hb d_M_isRun_44 (by decide) ?_
      have h := Option.some.inj h
      subst h
      exact he_z C hW hS (by decide) d_M_isRun_48
    · have h := ite_t c17 h
      refine lv_aload_n hx hb d_M_isRun_20 rfl (lv_at hl 0 rfl) ?_
      refine hg_r (j := 201) C hW 200 1 (hW.fx 200 rfl) rfl q_M (by decide) rfl (hW.fn (E := E1) (i := 200) (k := 1) rfl) (lkF C kf_M_7) d_M_isRun_21 ?_
      refine lv_iload_n hx hb d_M_isRun_24 rfl (lv_at hl 1 rfl) ?_
      obtain ⟨g3, h⟩ := gd_some h
      refine ha_b C hW 201 (hW.fx 201 rfl) rfl rfl g3 d_M_isRun_25 ?_
      obtain ⟨r4, er4, h⟩ := ob_some h
      refine hx_S (As := [.int ((gF S 201 x1.toNatClampNeg))]) (rest := []) C hW hS (s_M_isDigit (gF S 201 x1.toNatClampNeg) er4) km_M_90 kv_M_isDigit kn_M kw_M_isDigit kd_M_isDigit ⟨by decide, by decide⟩ ⟨Nat.zero_le _, Nat.zero_le _⟩ rfl hl.1 rfl (Nat.le_of_ble_eq_true rfl) d_M_isRun_26 (fun H locs hW hS => ?_)
      refine lv_if_ne (tgt := 43) hx hb d_M_isRun_29 (by decide) (fun c29 => ?_) (fun c29 => ?_)
      · have h := ite_f c29 h
        refine lv_iconst (v := 1) hx hb d_M_isRun_43 (by decide) ?_
        refine lv_goto (tgt := 48) hx hb d_M_isRun_44 (by decide) ?_
        have h := Option.some.inj h
        subst h
        exact he_z C hW hS (by decide) d_M_isRun_48
      · have h := ite_t c29 h
        refine lv_aload_n hx hb d_M_isRun_32 rfl (lv_at hl 0 rfl) ?_
        refine hg_r (j := 201) C hW 200 1 (hW.fx 200 rfl) rfl q_M (by decide) rfl (hW.fn (E := E1) (i := 200) (k := 1) rfl) (lkF C kf_M_7) d_M_isRun_33 ?_
        refine lv_iload_n hx hb d_M_isRun_36 rfl (lv_at hl 1 rfl) ?_
        obtain ⟨g5, h⟩ := gd_some h
        refine ha_b C hW 201 (hW.fx 201 rfl) rfl rfl g5 d_M_isRun_37 ?_
        refine lv_bipush (v := 45) hx hb d_M_isRun_38 (by decide) ?_
        refine lv_icmp_ne (tgt := 47) hx hb d_M_isRun_40 (by decide) (fun c40 => ?_) (fun c40 => ?_)
        · have h := ite_f c40 h
          refine lv_iconst (v := 0) hx hb d_M_isRun_47 (by decide) ?_
          have h := Option.some.inj h
          subst h
          exact he_z C hW hS (by decide) d_M_isRun_48
        · have h := ite_t c40 h
          refine lv_iconst (v := 1) hx hb d_M_isRun_43 (by decide) ?_
          refine lv_goto (tgt := 48) hx hb d_M_isRun_44 (by decide) ?_
          have h := Option.some.inj h
          subst h
          exact he_z C hW hS (by decide) d_M_isRun_48
end WK
def f_M_give_b35B (n : Nat) (kc : Int64 → Int32 → HS → Option (Int32 × HS)) (x1 : Int64) (x4 : Int32) (S : HS) : Option (Int32 × HS) :=
  (if x4 < 0 then
  some ((1 : Int32), S)
  else
  gd (inR (gF S 200 2) 8192) <|
  lt (sF S 201 (gF S 200 2).toNatClampNeg ((((x1 >>> (((8 : Int32) * x4).toInt64 &&& 63)).toInt32).toInt8.toInt32).toInt8.toInt32)) fun S4 =>
  lt (sF S4 200 2 ((gF S4 200 2) + (1 : Int32))) fun S5 =>
  lt (x4 + -1) fun v6 =>
  kc x1 v6 S5)
def f_M_give_b35 (n : Nat) (k : Nat) : Int64 → Int32 → HS → Option (Int32 × HS) := lpF (fun _ _ _ => none) (f_M_give_b35B n) k
def f_M_give (n : Nat) (x1 : Int64) (x3 : Int32) (S : HS) : Option (Int32 × HS) :=
  lt (sF S 200 0 (0 : Int32)) fun S1 =>
  (if x3 < (1 : Int32) then
  some ((0 : Int32), S1)
  else
  (if (8 : Int32) < x3 then
  some ((0 : Int32), S1)
  else
  (if ((gF S1 200 2) + x3) ≤ (8192 : Int32) then
  lt (x3 - (1 : Int32)) fun v2 =>
  f_M_give_b35 n n x1 v2 S1
  else
  some ((0 : Int32), S1))))
section WK
variable {p : Program} {l : Launch} {e : Env} {s : State} {m : MethodId} {args : Array Value} {below : List Frame} {meth : Method} {c : Code} {D : va_G} {cA : Nat → ClassId} {z : Nat} {ac : Nat → Nat} {ad : Nat → Nat}
set_option maxHeartbeats 4000000 in
set_option maxRecDepth 100000 in
theorem w_M_give_35B (C : CB p s m args c meth b_M_give "TwoLevelParserModel" 5 (some .boolean) D cA z ac) (n : Nat) (kc : Int64 → Int32 → HS → Option (Int32 × HS)) {r : Int32} {S' : HS} (hk : ∀ (x1 : Int64) (x4 : Int32) (S : HS) {H : Heap} {locs : List Loc} {ls : Array Slot}, kc x1 x4 S = some (r, S') → HW D cA z ac E1 ad S H → va_S (zA z) s.heap H locs → lv_has ls 5 [(0, .ref (ad 200)), (1, .long (x1)), (4, .int (x4))] → GW p l e 0 s m args below meth c D cA z ac E1 ad (some (.int r)) S' H locs (F0 m 35 ls [])) (x1 : Int64) (x4 : Int32) {S : HS} {H : Heap} {locs : List Loc} {ls : Array Slot} (h : f_M_give_b35B n kc x1 x4 S = some (r, S')) (hW : HW D cA z ac E1 ad S H) (hS : va_S (zA z) s.heap H locs) (hl : lv_has ls 5 [(0, .ref (ad 200)), (1, .long (x1)), (4, .int (x4))]) : GW p l e 0 s m args below meth c D cA z ac E1 ad (some (.int r)) S' H locs (F0 m 35 ls []) := by
  obtain ⟨⟨hx, hb, hml, hown, hts⟩, hK, hr, hlo⟩ := id C
  unfold f_M_give_b35B at h
  refine lv_iload hx hb d_M_give_35 (lv_at hl 2 rfl) ?_
  refine lv_if_lt (tgt := 74) hx hb d_M_give_37 (by decide) (fun c37 => ?_) (fun c37 => ?_)
  · have h := ite_t c37 h
    refine lv_iconst (v := 1) hx hb d_M_give_74 (by decide) ?_
    obtain ⟨hr1, hr2⟩ := Prod.mk.inj (Option.some.inj h)
    subst hr1
    subst hr2
    exact he_z C hW hS (by decide) d_M_give_75
  · have h := ite_f c37 h
    refine lv_aload_n hx hb d_M_give_40 rfl (lv_at hl 0 rfl) ?_
    refine hg_r (j := 201) C hW 200 1 (hW.fx 200 rfl) rfl q_M (by decide) rfl (hW.fn (E := E1) (i := 200) (k := 1) rfl) (lkF C kf_M_7) d_M_give_41 ?_
    refine lv_aload_n hx hb d_M_give_44 rfl (lv_at hl 0 rfl) ?_
    refine hg_i C hW 200 2 (hW.fx 200 rfl) rfl q_M (by decide) rfl (lkF C kf_M_80) d_M_give_45 ?_
    refine lv_lload_n hx hb d_M_give_48 rfl (lv_at hl 1 rfl) ?_
    refine lv_bipush (v := 8) hx hb d_M_give_49 (by decide) ?_
    refine lv_iload hx hb d_M_give_51 (lv_at hl 2 rfl) ?_
    refine lv_imul hx hb d_M_give_53 ?_
    refine lv_lshr (v := (x1 >>> (((8 : Int32) * x4).toInt64 &&& 63))) hx hb d_M_give_54 rfl ?_
    refine lv_l2i (v := (x1 >>> (((8 : Int32) * x4).toInt64 &&& 63)).toInt32) hx hb d_M_give_55 rfl ?_
    refine lv_i2b (v := ((x1 >>> (((8 : Int32) * x4).toInt64 &&& 63)).toInt32).toInt8.toInt32) hx hb d_M_give_56 rfl ?_
    obtain ⟨g3, h⟩ := gd_some h
    obtain ⟨S4, eS4, h⟩ := lt_some h
    refine hs_b C hW hS 201 (hW.fx 201 rfl) rfl rfl g3 rfl eS4 d_M_give_57 (fun H locs hW hS => ?_)
    refine lv_aload_n hx hb d_M_give_58 rfl (lv_at hl 0 rfl) ?_
    refine lv_dup hx hb d_M_give_59 rfl ?_
    refine hg_i C hW 200 2 (hW.fx 200 rfl) rfl q_M (by decide) rfl (lkF C kf_M_80) d_M_give_60 ?_
    refine lv_iconst (v := 1) hx hb d_M_give_63 (by decide) ?_
    refine lv_iadd hx hb d_M_give_64 ?_
    obtain ⟨S5, eS5, h⟩ := lt_some h
    refine hp_i C hW hS 200 2 (hW.fx 200 rfl) rfl q_M (by decide) rfl rfl rfl (lkF C kf_M_80) eS5 d_M_give_65 (fun H locs hW hS => ?_)
    obtain ⟨v6, ev6, h⟩ := lt_some h
    refine lv_iinc (v := v6) (lv' := [(4, .int (v6)), (0, .ref (ad 200)), (1, .long (x1))]) hx hb d_M_give_68 hl (k := 2) rfl (by rw [ev6]; rfl) (by decide) rfl (fun ls hl => ?_)
    refine lv_goto (tgt := 35) hx hb d_M_give_71 (by decide) ?_
    exact hk _ _ _ h hW hS (lv_sub hl [1, 2, 0] rfl)
set_option maxHeartbeats 4000000 in
set_option maxRecDepth 100000 in
theorem w_M_give_35 (C : CB p s m args c meth b_M_give "TwoLevelParserModel" 5 (some .boolean) D cA z ac) (n : Nat) (k : Nat) {r : Int32} {S' : HS} : ∀ (x1 : Int64) (x4 : Int32) {S : HS} {H : Heap} {locs : List Loc} {ls : Array Slot}, f_M_give_b35 n k x1 x4 S = some (r, S') → HW D cA z ac E1 ad S H → va_S (zA z) s.heap H locs → lv_has ls 5 [(0, .ref (ad 200)), (1, .long (x1)), (4, .int (x4))] → GW p l e 0 s m args below meth c D cA z ac E1 ad (some (.int r)) S' H locs (F0 m 35 ls []) := by
  induction k with
  | zero => intro x1 x4 S H locs ls h; cases h
  | succ k ih => intro x1 x4 S H locs ls h hW hS hl; exact w_M_give_35B C n (f_M_give_b35 n k) (fun x1 x4 S H locs ls h hW hS hl => ih x1 x4 h hW hS hl) x1 x4 h hW hS hl
set_option maxHeartbeats 4000000 in
set_option maxRecDepth 100000 in
theorem s_M_give (n : Nat) (x1 : Int64) (x3 : Int32) {S : HS} {r : Int32} {S' : HS} (h : f_M_give n x1 x3 S = some (r, S')) : Met l y_M_give (.code y_M_give b_M_give 5 (some .boolean) :: lw_g) (rmD 0 0 0) (PcH D cA z ac E1 ad [.ref (ad 200), .long (x1), .int (x3)] S) (QN D cA z ac E1 ad (some (.int r)) S') 0 0 (zA z) := by
  refine Met.ofH (own := "TwoLevelParserModel") (by decide) rfl (Nat.le_of_ble_eq_true rfl) ?_
  intro p e s m args below meth c H ls C hW hS hl
  have hl : lv_has ls 5 [(0, .ref (ad 200)), (1, .long (x1)), (3, .int (x3))] := hl
  obtain ⟨⟨hx, hb, hml, hown, hts⟩, hK, hr, hlo⟩ := id C
  unfold f_M_give at h
  refine lv_aload_n hx hb d_M_give_0 rfl (lv_at hl 0 rfl) ?_
  refine lv_iconst (v := 0) hx hb d_M_give_1 (by decide) ?_
  obtain ⟨S1, eS1, h⟩ := lt_some h
  refine hp_i C hW hS 200 0 (hW.fx 200 rfl) rfl q_M (by decide) rfl rfl rfl (lkF C kf_M_77) eS1 d_M_give_2 (fun H locs hW hS => ?_)
  refine lv_iload_n hx hb d_M_give_5 rfl (lv_at hl 2 rfl) ?_
  refine lv_iconst (v := 1) hx hb d_M_give_6 (by decide) ?_
  refine lv_icmp_lt (tgt := 28) hx hb d_M_give_7 (by decide) (fun c7 => ?_) (fun c7 => ?_)
  · have h := ite_t c7 h
    refine lv_iconst (v := 0) hx hb d_M_give_28 (by decide) ?_
    obtain ⟨hr1, hr2⟩ := Prod.mk.inj (Option.some.inj h)
    subst hr1
    subst hr2
    exact he_z C hW hS (by decide) d_M_give_29
  · have h := ite_f c7 h
    refine lv_iload_n hx hb d_M_give_10 rfl (lv_at hl 2 rfl) ?_
    refine lv_bipush (v := 8) hx hb d_M_give_11 (by decide) ?_
    refine lv_icmp_gt (tgt := 28) hx hb d_M_give_13 (by decide) (fun c13 => ?_) (fun c13 => ?_)
    · have h := ite_t c13 h
      refine lv_iconst (v := 0) hx hb d_M_give_28 (by decide) ?_
      obtain ⟨hr1, hr2⟩ := Prod.mk.inj (Option.some.inj h)
      subst hr1
      subst hr2
      exact he_z C hW hS (by decide) d_M_give_29
    · have h := ite_f c13 h
      refine lv_aload_n hx hb d_M_give_16 rfl (lv_at hl 0 rfl) ?_
      refine hg_i C hW 200 2 (hW.fx 200 rfl) rfl q_M (by decide) rfl (lkF C kf_M_80) d_M_give_17 ?_
      refine lv_iload_n hx hb d_M_give_20 rfl (lv_at hl 2 rfl) ?_
      refine lv_iadd hx hb d_M_give_21 ?_
      refine lv_sipush (v := 8192) hx hb d_M_give_22 (by decide) ?_
      refine lv_icmp_le (tgt := 30) hx hb d_M_give_25 (by decide) (fun c25 => ?_) (fun c25 => ?_)
      · have h := ite_t c25 h
        refine lv_iload_n hx hb d_M_give_30 rfl (lv_at hl 2 rfl) ?_
        refine lv_iconst (v := 1) hx hb d_M_give_31 (by decide) ?_
        refine lv_isub hx hb d_M_give_32 ?_
        obtain ⟨v2, ev2, h⟩ := lt_some h
        refine lt_i (lv' := [(4, .int (v2)), (0, .ref (ad 200)), (1, .long (x1)), (3, .int (x3))]) C d_M_give_33 hl (by decide) ev2 rfl (fun ls hl => ?_)
        exact w_M_give_35 C n n x1 v2 h hW hS (lv_sub hl [1, 2, 0] rfl)
      · have h := ite_f c25 h
        refine lv_iconst (v := 0) hx hb d_M_give_28 (by decide) ?_
        obtain ⟨hr1, hr2⟩ := Prod.mk.inj (Option.some.inj h)
        subst hr1
        subst hr2
        exact he_z C hW hS (by decide) d_M_give_29
end WK
def f_M_wipe (S : HS) : Option HS :=
  lt (sF S 200 0 (0 : Int32)) fun S1 =>
  lt (sF S1 200 2 (0 : Int32)) fun S2 =>
  some S2
section WK
variable {p : Program} {l : Launch} {e : Env} {s : State} {m : MethodId} {args : Array Value} {below : List Frame} {meth : Method} {c : Code} {D : va_G} {cA : Nat → ClassId} {z : Nat} {ac : Nat → Nat} {ad : Nat → Nat}
set_option maxHeartbeats 4000000 in
set_option maxRecDepth 100000 in
theorem s_M_wipe {S : HS} {S' : HS} (h : f_M_wipe S = some S') : Met l y_M_wipe (.code y_M_wipe b_M_wipe 1 none :: lw_g) (rmD 0 0 0) (PcH D cA z ac E1 ad [.ref (ad 200)] S) (QN D cA z ac E1 ad none S') 0 0 (zA z) := by
  refine Met.ofH (own := "TwoLevelParserModel") (by decide) rfl (Nat.le_of_ble_eq_true rfl) ?_
  intro p e s m args below meth c H ls C hW hS hl
  have hl : lv_has ls 1 [(0, .ref (ad 200))] := hl
  obtain ⟨⟨hx, hb, hml, hown, hts⟩, hK, hr, hlo⟩ := id C
  unfold f_M_wipe at h
  refine lv_aload_n hx hb d_M_wipe_0 rfl (lv_at hl 0 rfl) ?_
  refine lv_iconst (v := 0) hx hb d_M_wipe_1 (by decide) ?_
  obtain ⟨S1, eS1, h⟩ := lt_some h
  refine hp_i C hW hS 200 0 (hW.fx 200 rfl) rfl q_M (by decide) rfl rfl rfl (lkF C kf_M_77) eS1 d_M_wipe_2 (fun H locs hW hS => ?_)
  refine lv_aload_n hx hb d_M_wipe_5 rfl (lv_at hl 0 rfl) ?_
  refine lv_iconst (v := 0) hx hb d_M_wipe_6 (by decide) ?_
  obtain ⟨S2, eS2, h⟩ := lt_some h
  refine hp_i C hW hS 200 2 (hW.fx 200 rfl) rfl q_M (by decide) rfl rfl rfl (lkF C kf_M_80) eS2 d_M_wipe_7 (fun H locs hW hS => ?_)
  have h := Option.some.inj h
  subst h
  exact he_v C hW hS d_M_wipe_10
end WK
def f_M_setName (x1 : Int32) (S : HS) : Option HS :=
  gd (inR x1 8192) <|
  lt (sL S 227 x1.toNatClampNeg (gL S 200 8)) fun S2 =>
  gd (inR x1 8192) <|
  lt (sF S2 223 x1.toNatClampNeg (gF S2 200 7)) fun S4 =>
  some S4
section WK
variable {p : Program} {l : Launch} {e : Env} {s : State} {m : MethodId} {args : Array Value} {below : List Frame} {meth : Method} {c : Code} {D : va_G} {cA : Nat → ClassId} {z : Nat} {ac : Nat → Nat} {ad : Nat → Nat}
set_option maxHeartbeats 4000000 in
set_option maxRecDepth 100000 in
theorem s_M_setName (x1 : Int32) {S : HS} {S' : HS} (h : f_M_setName x1 S = some S') : Met l y_M_setName (.code y_M_setName b_M_setName 2 none :: lw_g) (rmD 0 0 0) (PcH D cA z ac E1 ad [.ref (ad 200), .int (x1)] S) (QN D cA z ac E1 ad none S') 0 0 (zA z) := by
  refine Met.ofH (own := "TwoLevelParserModel") (by decide) rfl (Nat.le_of_ble_eq_true rfl) ?_
  intro p e s m args below meth c H ls C hW hS hl
  have hl : lv_has ls 2 [(0, .ref (ad 200)), (1, .int (x1))] := hl
  obtain ⟨⟨hx, hb, hml, hown, hts⟩, hK, hr, hlo⟩ := id C
  unfold f_M_setName at h
  refine lv_aload_n hx hb d_M_setName_0 rfl (lv_at hl 0 rfl) ?_
  refine hg_r (j := 227) C hW 200 27 (hW.fx 200 rfl) rfl q_M (by decide) rfl (hW.fn (E := E1) (i := 200) (k := 27) rfl) (lkF C kf_M_64) d_M_setName_1 ?_
  refine lv_iload_n hx hb d_M_setName_4 rfl (lv_at hl 1 rfl) ?_
  refine lv_aload_n hx hb d_M_setName_5 rfl (lv_at hl 0 rfl) ?_
  refine hg_l C hW 200 8 (hW.fx 200 rfl) rfl q_M (by decide) rfl (lkF C kf_M_115) d_M_setName_6 ?_
  obtain ⟨g1, h⟩ := gd_some h
  obtain ⟨S2, eS2, h⟩ := lt_some h
  refine hs_l C hW hS 227 (hW.fx 227 rfl) rfl rfl g1 eS2 d_M_setName_9 (fun H locs hW hS => ?_)
  refine lv_aload_n hx hb d_M_setName_10 rfl (lv_at hl 0 rfl) ?_
  refine hg_r (j := 223) C hW 200 23 (hW.fx 200 rfl) rfl q_M (by decide) rfl (hW.fn (E := E1) (i := 200) (k := 23) rfl) (lkF C kf_M_52) d_M_setName_11 ?_
  refine lv_iload_n hx hb d_M_setName_14 rfl (lv_at hl 1 rfl) ?_
  refine lv_aload_n hx hb d_M_setName_15 rfl (lv_at hl 0 rfl) ?_
  refine hg_i C hW 200 7 (hW.fx 200 rfl) rfl q_M (by decide) rfl (lkF C kf_M_96) d_M_setName_16 ?_
  obtain ⟨g3, h⟩ := gd_some h
  obtain ⟨S4, eS4, h⟩ := lt_some h
  refine hs_i C hW hS 223 (hW.fx 223 rfl) rfl rfl g3 eS4 d_M_setName_19 (fun H locs hW hS => ?_)
  have h := Option.some.inj h
  subst h
  exact he_v C hW hS d_M_setName_20
end WK
def f_M_isDefinition (x1 : Int32) (S : HS) : Option Int32 :=
  (if x1 < 0 then
  some (0 : Int32)
  else
  (if (gF S 200 10) ≤ x1 then
  some (0 : Int32)
  else
  some (1 : Int32)))
section WK
variable {p : Program} {l : Launch} {e : Env} {s : State} {m : MethodId} {args : Array Value} {below : List Frame} {meth : Method} {c : Code} {D : va_G} {cA : Nat → ClassId} {z : Nat} {ac : Nat → Nat} {ad : Nat → Nat}
set_option maxHeartbeats 4000000 in
set_option maxRecDepth 100000 in
theorem s_M_isDefinition (x1 : Int32) {S : HS} {r : Int32} (h : f_M_isDefinition x1 S = some r) : Met l y_M_isDefinition (.code y_M_isDefinition b_M_isDefinition 2 (some .boolean) :: lw_g) (rmD 0 0 0) (PcH D cA z ac E1 ad [.ref (ad 200), .int (x1)] S) (QN D cA z ac E1 ad (some (.int r)) S) 0 0 (zA z) := by
  refine Met.ofH (own := "TwoLevelParserModel") (by decide) rfl (Nat.le_of_ble_eq_true rfl) ?_
  intro p e s m args below meth c H ls C hW hS hl
  have hl : lv_has ls 2 [(0, .ref (ad 200)), (1, .int (x1))] := hl
  obtain ⟨⟨hx, hb, hml, hown, hts⟩, hK, hr, hlo⟩ := id C
  unfold f_M_isDefinition at h
  refine lv_iload_n hx hb d_M_isDefinition_0 rfl (lv_at hl 1 rfl) ?_
  refine lv_if_lt (tgt := 16) hx hb d_M_isDefinition_1 (by decide) (fun c1 => ?_) (fun c1 => ?_)
  · have h := ite_t c1 h
    refine lv_iconst (v := 0) hx hb d_M_isDefinition_16 (by decide) ?_
    have h := Option.some.inj h
    subst h
    exact he_z C hW hS (by decide) d_M_isDefinition_17
  · have h := ite_f c1 h
    refine lv_iload_n hx hb d_M_isDefinition_4 rfl (lv_at hl 1 rfl) ?_
    refine lv_aload_n hx hb d_M_isDefinition_5 rfl (lv_at hl 0 rfl) ?_
    refine hg_i C hW 200 10 (hW.fx 200 rfl) rfl q_M (by decide) rfl (lkF C kf_M_251) d_M_isDefinition_6 ?_
    refine lv_icmp_ge (tgt := 16) hx hb d_M_isDefinition_9 (by decide) (fun c9 => ?_) (fun c9 => ?_)
    · have h := ite_t c9 h
      refine lv_iconst (v := 0) hx hb d_M_isDefinition_16 (by decide) ?_
      have h := Option.some.inj h
      subst h
      exact he_z C hW hS (by decide) d_M_isDefinition_17
    · have h := ite_f c9 h
      refine lv_iconst (v := 1) hx hb d_M_isDefinition_12 (by decide) ?_
      refine lv_goto (tgt := 17) hx hb d_M_isDefinition_13 (by decide) ?_
      have h := Option.some.inj h
      subst h
      exact he_z C hW hS (by decide) d_M_isDefinition_17
end WK
def f_M_make (x1 : Int32) (x2 : Int32) (S : HS) : Option (Int32 × HS) :=
  lt (gF S 200 19) fun v1 =>
  lt (sF S 200 19 ((gF S 200 19) + (1 : Int32))) fun S2 =>
  gd (inR v1 8192) <|
  lt (sF S2 220 v1.toNatClampNeg x1) fun S4 =>
  gd (inR v1 8192) <|
  lt (sF S4 221 v1.toNatClampNeg x2) fun S6 =>
  gd (inR v1 8192) <|
  lt (sF S6 222 v1.toNatClampNeg (gF S6 200 7)) fun S8 =>
  gd (inR v1 8192) <|
  lt (sF S8 223 v1.toNatClampNeg (-1 : Int32)) fun S10 =>
  gd (inR v1 8192) <|
  lt (sF S10 224 v1.toNatClampNeg (-1 : Int32)) fun S12 =>
  gd (inR v1 8192) <|
  lt (sL S12 227 v1.toNatClampNeg (0 : Int64)) fun S14 =>
  gd (inR v1 8192) <|
  lt (sL S14 228 v1.toNatClampNeg (0 : Int64)) fun S16 =>
  gd (inR v1 8192) <|
  lt (sF S16 226 v1.toNatClampNeg (0 : Int32)) fun S18 =>
  gd (inR v1 8192) <|
  lt (sF S18 225 v1.toNatClampNeg (gF S18 200 32)) fun S20 =>
  some (v1, S20)
section WK
variable {p : Program} {l : Launch} {e : Env} {s : State} {m : MethodId} {args : Array Value} {below : List Frame} {meth : Method} {c : Code} {D : va_G} {cA : Nat → ClassId} {z : Nat} {ac : Nat → Nat} {ad : Nat → Nat}
set_option maxHeartbeats 4000000 in
set_option maxRecDepth 100000 in
theorem s_M_make (x1 : Int32) (x2 : Int32) {S : HS} {r : Int32} {S' : HS} (h : f_M_make x1 x2 S = some (r, S')) : Met l y_M_make (.code y_M_make b_M_make 4 (some .int) :: lw_g) (rmD 0 0 0) (PcH D cA z ac E1 ad [.ref (ad 200), .int (x1), .int (x2)] S) (QN D cA z ac E1 ad (some (.int r)) S') 0 0 (zA z) := by
  refine Met.ofH (own := "TwoLevelParserModel") (by decide) rfl (Nat.le_of_ble_eq_true rfl) ?_
  intro p e s m args below meth c H ls C hW hS hl
  have hl : lv_has ls 4 [(0, .ref (ad 200)), (1, .int (x1)), (2, .int (x2))] := hl
  obtain ⟨⟨hx, hb, hml, hown, hts⟩, hK, hr, hlo⟩ := id C
  unfold f_M_make at h
  refine lv_aload_n hx hb d_M_make_0 rfl (lv_at hl 0 rfl) ?_
  refine hg_i C hW 200 19 (hW.fx 200 rfl) rfl q_M (by decide) rfl (lkF C kf_M_207) d_M_make_1 ?_
  obtain ⟨v1, ev1, h⟩ := lt_some h
  refine lt_i_n (lv' := [(3, .int (v1)), (0, .ref (ad 200)), (1, .int (x1)), (2, .int (x2))]) C d_M_make_4 rfl hl (by decide) ev1 rfl (fun ls hl => ?_)
  refine lv_aload_n hx hb d_M_make_5 rfl (lv_at hl 1 rfl) ?_
  refine lv_dup hx hb d_M_make_6 rfl ?_
  refine hg_i C hW 200 19 (hW.fx 200 rfl) rfl q_M (by decide) rfl (lkF C kf_M_207) d_M_make_7 ?_
  refine lv_iconst (v := 1) hx hb d_M_make_10 (by decide) ?_
  refine lv_iadd hx hb d_M_make_11 ?_
  obtain ⟨S2, eS2, h⟩ := lt_some h
  refine hp_i C hW hS 200 19 (hW.fx 200 rfl) rfl q_M (by decide) rfl rfl rfl (lkF C kf_M_207) eS2 d_M_make_12 (fun H locs hW hS => ?_)
  refine lv_aload_n hx hb d_M_make_15 rfl (lv_at hl 1 rfl) ?_
  refine hg_r (j := 220) C hW 200 20 (hW.fx 200 rfl) rfl q_M (by decide) rfl (hW.fn (E := E1) (i := 200) (k := 20) rfl) (lkF C kf_M_43) d_M_make_16 ?_
  refine lv_iload_n hx hb d_M_make_19 rfl (lv_at hl 0 rfl) ?_
  refine lv_iload_n hx hb d_M_make_20 rfl (lv_at hl 2 rfl) ?_
  obtain ⟨g3, h⟩ := gd_some h
  obtain ⟨S4, eS4, h⟩ := lt_some h
  refine hs_i C hW hS 220 (hW.fx 220 rfl) rfl rfl g3 eS4 d_M_make_21 (fun H locs hW hS => ?_)
  refine lv_aload_n hx hb d_M_make_22 rfl (lv_at hl 1 rfl) ?_
  refine hg_r (j := 221) C hW 200 21 (hW.fx 200 rfl) rfl q_M (by decide) rfl (hW.fn (E := E1) (i := 200) (k := 21) rfl) (lkF C kf_M_46) d_M_make_23 ?_
  refine lv_iload_n hx hb d_M_make_26 rfl (lv_at hl 0 rfl) ?_
  refine lv_iload_n hx hb d_M_make_27 rfl (lv_at hl 3 rfl) ?_
  obtain ⟨g5, h⟩ := gd_some h
  obtain ⟨S6, eS6, h⟩ := lt_some h
  refine hs_i C hW hS 221 (hW.fx 221 rfl) rfl rfl g5 eS6 d_M_make_28 (fun H locs hW hS => ?_)
  refine lv_aload_n hx hb d_M_make_29 rfl (lv_at hl 1 rfl) ?_
  refine hg_r (j := 222) C hW 200 22 (hW.fx 200 rfl) rfl q_M (by decide) rfl (hW.fn (E := E1) (i := 200) (k := 22) rfl) (lkF C kf_M_49) d_M_make_30 ?_
  refine lv_iload_n hx hb d_M_make_33 rfl (lv_at hl 0 rfl) ?_
  refine lv_aload_n hx hb d_M_make_34 rfl (lv_at hl 1 rfl) ?_
  refine hg_i C hW 200 7 (hW.fx 200 rfl) rfl q_M (by decide) rfl (lkF C kf_M_96) d_M_make_35 ?_
  obtain ⟨g7, h⟩ := gd_some h
  obtain ⟨S8, eS8, h⟩ := lt_some h
  refine hs_i C hW hS 222 (hW.fx 222 rfl) rfl rfl g7 eS8 d_M_make_38 (fun H locs hW hS => ?_)
  refine lv_aload_n hx hb d_M_make_39 rfl (lv_at hl 1 rfl) ?_
  refine hg_r (j := 223) C hW 200 23 (hW.fx 200 rfl) rfl q_M (by decide) rfl (hW.fn (E := E1) (i := 200) (k := 23) rfl) (lkF C kf_M_52) d_M_make_40 ?_
  refine lv_iload_n hx hb d_M_make_43 rfl (lv_at hl 0 rfl) ?_
  refine lv_iconst (v := -1) hx hb d_M_make_44 (by decide) ?_
  obtain ⟨g9, h⟩ := gd_some h
  obtain ⟨S10, eS10, h⟩ := lt_some h
  refine hs_i C hW hS 223 (hW.fx 223 rfl) rfl rfl g9 eS10 d_M_make_45 (fun H locs hW hS => ?_)
  refine lv_aload_n hx hb d_M_make_46 rfl (lv_at hl 1 rfl) ?_
  refine hg_r (j := 224) C hW 200 24 (hW.fx 200 rfl) rfl q_M (by decide) rfl (hW.fn (E := E1) (i := 200) (k := 24) rfl) (lkF C kf_M_55) d_M_make_47 ?_
  refine lv_iload_n hx hb d_M_make_50 rfl (lv_at hl 0 rfl) ?_
  refine lv_iconst (v := -1) hx hb d_M_make_51 (by decide) ?_
  obtain ⟨g11, h⟩ := gd_some h
  obtain ⟨S12, eS12, h⟩ := lt_some h
  refine hs_i C hW hS 224 (hW.fx 224 rfl) rfl rfl g11 eS12 d_M_make_52 (fun H locs hW hS => ?_)
  refine lv_aload_n hx hb d_M_make_53 rfl (lv_at hl 1 rfl) ?_
  refine hg_r (j := 227) C hW 200 27 (hW.fx 200 rfl) rfl q_M (by decide) rfl (hW.fn (E := E1) (i := 200) (k := 27) rfl) (lkF C kf_M_64) d_M_make_54 ?_
  refine lv_iload_n hx hb d_M_make_57 rfl (lv_at hl 0 rfl) ?_
  refine lv_lconst (v := 0) hx hb d_M_make_58 (by decide) ?_
  obtain ⟨g13, h⟩ := gd_some h
  obtain ⟨S14, eS14, h⟩ := lt_some h
  refine hs_l C hW hS 227 (hW.fx 227 rfl) rfl rfl g13 eS14 d_M_make_59 (fun H locs hW hS => ?_)
  refine lv_aload_n hx hb d_M_make_60 rfl (lv_at hl 1 rfl) ?_
  refine hg_r (j := 228) C hW 200 28 (hW.fx 200 rfl) rfl q_M (by decide) rfl (hW.fn (E := E1) (i := 200) (k := 28) rfl) (lkF C kf_M_67) d_M_make_61 ?_
  refine lv_iload_n hx hb d_M_make_64 rfl (lv_at hl 0 rfl) ?_
  refine lv_lconst (v := 0) hx hb d_M_make_65 (by decide) ?_
  obtain ⟨g15, h⟩ := gd_some h
  obtain ⟨S16, eS16, h⟩ := lt_some h
  refine hs_l C hW hS 228 (hW.fx 228 rfl) rfl rfl g15 eS16 d_M_make_66 (fun H locs hW hS => ?_)
  refine lv_aload_n hx hb d_M_make_67 rfl (lv_at hl 1 rfl) ?_
  refine hg_r (j := 226) C hW 200 26 (hW.fx 200 rfl) rfl q_M (by decide) rfl (hW.fn (E := E1) (i := 200) (k := 26) rfl) (lkF C kf_M_61) d_M_make_68 ?_
  refine lv_iload_n hx hb d_M_make_71 rfl (lv_at hl 0 rfl) ?_
  refine lv_iconst (v := 0) hx hb d_M_make_72 (by decide) ?_
  obtain ⟨g17, h⟩ := gd_some h
  obtain ⟨S18, eS18, h⟩ := lt_some h
  refine hs_i C hW hS 226 (hW.fx 226 rfl) rfl rfl g17 eS18 d_M_make_73 (fun H locs hW hS => ?_)
  refine lv_aload_n hx hb d_M_make_74 rfl (lv_at hl 1 rfl) ?_
  refine hg_r (j := 225) C hW 200 25 (hW.fx 200 rfl) rfl q_M (by decide) rfl (hW.fn (E := E1) (i := 200) (k := 25) rfl) (lkF C kf_M_58) d_M_make_75 ?_
  refine lv_iload_n hx hb d_M_make_78 rfl (lv_at hl 0 rfl) ?_
  refine lv_aload_n hx hb d_M_make_79 rfl (lv_at hl 1 rfl) ?_
  refine hg_i C hW 200 32 (hW.fx 200 rfl) rfl q_M (by decide) rfl (lkF C kf_M_210) d_M_make_80 ?_
  obtain ⟨g19, h⟩ := gd_some h
  obtain ⟨S20, eS20, h⟩ := lt_some h
  refine hs_i C hW hS 225 (hW.fx 225 rfl) rfl rfl g19 eS20 d_M_make_83 (fun H locs hW hS => ?_)
  refine lv_iload_n hx hb d_M_make_84 rfl (lv_at hl 0 rfl) ?_
  obtain ⟨hr1, hr2⟩ := Prod.mk.inj (Option.some.inj h)
  subst hr1
  subst hr2
  exact he_i C hW hS d_M_make_85
end WK
def f_M_within_b48 (n : Nat) (kc : Int32 → Int32 → Int32 → Int32 → HS → Option Int32) (x1 : Int32) (x2 : Int32) (x4 : Int32) (y0 : Int32) (y1 : Int32) (S : HS) : Option Int32 :=
  lt (y1 + y0) fun v5 =>
  lt (x4 + 1) fun v6 =>
  kc x1 x2 v5 v6 S
def f_M_within_b43 (n : Nat) (kc : Int32 → Int32 → Int32 → Int32 → HS → Option Int32) (x1 : Int32) (x2 : Int32) (x4 : Int32) (y0 : Int32) (S : HS) : Option Int32 :=
  f_M_within_b48 n kc x1 x2 x4 (1 : Int32) y0 S
def f_M_within_b7B (n : Nat) (kc : Int32 → Int32 → Int32 → Int32 → HS → Option Int32) (x1 : Int32) (x2 : Int32) (x3 : Int32) (x4 : Int32) (S : HS) : Option Int32 :=
  (if (gF S 200 19) ≤ x4 then
  some x3
  else
  gd (inR x4 8192) <|
  (if (gF S 221 x4.toNatClampNeg) < x1 then
  some x3
  else
  (if x2 = 0 then
  f_M_within_b43 n kc x1 x2 x4 x3 S
  else
  gd (inR x4 8192) <|
  (if (gF S 221 x4.toNatClampNeg) = x1 then
  f_M_within_b43 n kc x1 x2 x4 x3 S
  else
  f_M_within_b48 n kc x1 x2 x4 (0 : Int32) x3 S))))
def f_M_within_b7 (n : Nat) (k : Nat) : Int32 → Int32 → Int32 → Int32 → HS → Option Int32 := lpF (fun _ _ _ _ _ => none) (f_M_within_b7B n) k
def f_M_within (n : Nat) (x1 : Int32) (x2 : Int32) (S : HS) : Option Int32 :=
  lt (0 : Int32) fun v1 =>
  lt (x1 + (1 : Int32)) fun v2 =>
  f_M_within_b7 n n x1 x2 v1 v2 S
section WK
variable {p : Program} {l : Launch} {e : Env} {s : State} {m : MethodId} {args : Array Value} {below : List Frame} {meth : Method} {c : Code} {D : va_G} {cA : Nat → ClassId} {z : Nat} {ac : Nat → Nat} {ad : Nat → Nat}
set_option maxHeartbeats 4000000 in
set_option maxRecDepth 100000 in
theorem w_M_within_48 (C : CB p s m args c meth b_M_within "TwoLevelParserModel" 5 (some .int) D cA z ac) (n : Nat) (kc : Int32 → Int32 → Int32 → Int32 → HS → Option Int32) {r : Int32} (hk : ∀ (x1 : Int32) (x2 : Int32) (x3 : Int32) (x4 : Int32) (S : HS) {H : Heap} {locs : List Loc} {ls : Array Slot}, kc x1 x2 x3 x4 S = some r → HW D cA z ac E1 ad S H → va_S (zA z) s.heap H locs → lv_has ls 5 [(0, .ref (ad 200)), (1, .int (x1)), (2, .int (x2)), (3, .int (x3)), (4, .int (x4))] → GW p l e 0 s m args below meth c D cA z ac E1 ad (some (.int r)) S H locs (F0 m 7 ls [])) (x1 : Int32) (x2 : Int32) (x4 : Int32) (y0 : Int32) (y1 : Int32) {S : HS} {H : Heap} {locs : List Loc} {ls : Array Slot} (h : f_M_within_b48 n kc x1 x2 x4 y0 y1 S = some r) (hW : HW D cA z ac E1 ad S H) (hS : va_S (zA z) s.heap H locs) (hl : lv_has ls 5 [(0, .ref (ad 200)), (1, .int (x1)), (2, .int (x2)), (4, .int (x4))]) : GW p l e 0 s m args below meth c D cA z ac E1 ad (some (.int r)) S H locs (F0 m 48 ls [.int (y0), .int (y1)]) := by
  obtain ⟨⟨hx, hb, hml, hown, hts⟩, hK, hr, hlo⟩ := id C
  unfold f_M_within_b48 at h
  refine lv_iadd hx hb d_M_within_48 ?_
  obtain ⟨v5, ev5, h⟩ := lt_some h
  refine lt_i_n (lv' := [(3, .int (v5)), (0, .ref (ad 200)), (1, .int (x1)), (2, .int (x2)), (4, .int (x4))]) C d_M_within_49 rfl hl (by decide) ev5 rfl (fun ls hl => ?_)
  obtain ⟨v6, ev6, h⟩ := lt_some h
  refine lv_iinc (v := v6) (lv' := [(4, .int (v6)), (3, .int (v5)), (0, .ref (ad 200)), (1, .int (x1)), (2, .int (x2))]) hx hb d_M_within_50 hl (k := 4) rfl (by rw [ev6]; rfl) (by decide) rfl (fun ls hl => ?_)
  refine lv_goto (tgt := 7) hx hb d_M_within_53 (by decide) ?_
  exact hk _ _ _ _ _ h hW hS (lv_sub hl [2, 3, 4, 1, 0] rfl)
set_option maxHeartbeats 4000000 in
set_option maxRecDepth 100000 in
theorem w_M_within_43 (C : CB p s m args c meth b_M_within "TwoLevelParserModel" 5 (some .int) D cA z ac) (n : Nat) (kc : Int32 → Int32 → Int32 → Int32 → HS → Option Int32) {r : Int32} (hk : ∀ (x1 : Int32) (x2 : Int32) (x3 : Int32) (x4 : Int32) (S : HS) {H : Heap} {locs : List Loc} {ls : Array Slot}, kc x1 x2 x3 x4 S = some r → HW D cA z ac E1 ad S H → va_S (zA z) s.heap H locs → lv_has ls 5 [(0, .ref (ad 200)), (1, .int (x1)), (2, .int (x2)), (3, .int (x3)), (4, .int (x4))] → GW p l e 0 s m args below meth c D cA z ac E1 ad (some (.int r)) S H locs (F0 m 7 ls [])) (x1 : Int32) (x2 : Int32) (x4 : Int32) (y0 : Int32) {S : HS} {H : Heap} {locs : List Loc} {ls : Array Slot} (h : f_M_within_b43 n kc x1 x2 x4 y0 S = some r) (hW : HW D cA z ac E1 ad S H) (hS : va_S (zA z) s.heap H locs) (hl : lv_has ls 5 [(0, .ref (ad 200)), (1, .int (x1)), (2, .int (x2)), (4, .int (x4))]) : GW p l e 0 s m args below meth c D cA z ac E1 ad (some (.int r)) S H locs (F0 m 43 ls [.int (y0)]) := by
  obtain ⟨⟨hx, hb, hml, hown, hts⟩, hK, hr, hlo⟩ := id C
  unfold f_M_within_b43 at h
  refine lv_iconst (v := 1) hx hb d_M_within_43 (by decide) ?_
  refine lv_goto (tgt := 48) hx hb d_M_within_44 (by decide) ?_
  exact w_M_within_48 C n kc hk x1 x2 x4 (1 : Int32) y0 h hW hS (lv_sub hl [0, 1, 2, 3] rfl)
set_option maxHeartbeats 4000000 in
set_option maxRecDepth 100000 in
theorem w_M_within_7B (C : CB p s m args c meth b_M_within "TwoLevelParserModel" 5 (some .int) D cA z ac) (n : Nat) (kc : Int32 → Int32 → Int32 → Int32 → HS → Option Int32) {r : Int32} (hk : ∀ (x1 : Int32) (x2 : Int32) (x3 : Int32) (x4 : Int32) (S : HS) {H : Heap} {locs : List Loc} {ls : Array Slot}, kc x1 x2 x3 x4 S = some r → HW D cA z ac E1 ad S H → va_S (zA z) s.heap H locs → lv_has ls 5 [(0, .ref (ad 200)), (1, .int (x1)), (2, .int (x2)), (3, .int (x3)), (4, .int (x4))] → GW p l e 0 s m args below meth c D cA z ac E1 ad (some (.int r)) S H locs (F0 m 7 ls [])) (x1 : Int32) (x2 : Int32) (x3 : Int32) (x4 : Int32) {S : HS} {H : Heap} {locs : List Loc} {ls : Array Slot} (h : f_M_within_b7B n kc x1 x2 x3 x4 S = some r) (hW : HW D cA z ac E1 ad S H) (hS : va_S (zA z) s.heap H locs) (hl : lv_has ls 5 [(0, .ref (ad 200)), (1, .int (x1)), (2, .int (x2)), (3, .int (x3)), (4, .int (x4))]) : GW p l e 0 s m args below meth c D cA z ac E1 ad (some (.int r)) S H locs (F0 m 7 ls []) := by
  obtain ⟨⟨hx, hb, hml, hown, hts⟩, hK, hr, hlo⟩ := id C
  unfold f_M_within_b7B at h
  refine lv_iload hx hb d_M_within_7 (lv_at hl 4 rfl) ?_
  refine lv_aload_n hx hb d_M_within_9 rfl (lv_at hl 0 rfl) ?_
  refine hg_i C hW 200 19 (hW.fx 200 rfl) rfl q_M (by decide) rfl (lkF C kf_M_207) d_M_within_10 ?_
  refine lv_icmp_ge (tgt := 56) hx hb d_M_within_13 (by decide) (fun c13 => ?_) (fun c13 => ?_)
  · have h := ite_t c13 h
    refine lv_iload_n hx hb d_M_within_56 rfl (lv_at hl 3 rfl) ?_
    have h := Option.some.inj h
    subst h
    exact he_i C hW hS d_M_within_57
  · have h := ite_f c13 h
    refine lv_aload_n hx hb d_M_within_16 rfl (lv_at hl 0 rfl) ?_
    refine hg_r (j := 221) C hW 200 21 (hW.fx 200 rfl) rfl q_M (by decide) rfl (hW.fn (E := E1) (i := 200) (k := 21) rfl) (lkF C kf_M_46) d_M_within_17 ?_
    refine lv_iload hx hb d_M_within_20 (lv_at hl 4 rfl) ?_
    obtain ⟨g3, h⟩ := gd_some h
    refine ha_i C hW 221 (hW.fx 221 rfl) rfl rfl g3 d_M_within_22 ?_
    refine lv_iload_n hx hb d_M_within_23 rfl (lv_at hl 1 rfl) ?_
    refine lv_icmp_lt (tgt := 56) hx hb d_M_within_24 (by decide) (fun c24 => ?_) (fun c24 => ?_)
    · have h := ite_t c24 h
      refine lv_iload_n hx hb d_M_within_56 rfl (lv_at hl 3 rfl) ?_
      have h := Option.some.inj h
      subst h
      exact he_i C hW hS d_M_within_57
    · have h := ite_f c24 h
      refine lv_iload_n hx hb d_M_within_27 rfl (lv_at hl 3 rfl) ?_
      refine lv_iload_n hx hb d_M_within_28 rfl (lv_at hl 2 rfl) ?_
      refine lv_if_eq (tgt := 43) hx hb d_M_within_29 (by decide) (fun c29 => ?_) (fun c29 => ?_)
      · have h := ite_t c29 h
        exact w_M_within_43 C n kc hk x1 x2 x4 x3 h hW hS (lv_sub hl [0, 1, 2, 4] rfl)
      · have h := ite_f c29 h
        refine lv_aload_n hx hb d_M_within_32 rfl (lv_at hl 0 rfl) ?_
        refine hg_r (j := 221) C hW 200 21 (hW.fx 200 rfl) rfl q_M (by decide) rfl (hW.fn (E := E1) (i := 200) (k := 21) rfl) (lkF C kf_M_46) d_M_within_33 ?_
        refine lv_iload hx hb d_M_within_36 (lv_at hl 4 rfl) ?_
        obtain ⟨g4, h⟩ := gd_some h
        refine ha_i C hW 221 (hW.fx 221 rfl) rfl rfl g4 d_M_within_38 ?_
        refine lv_iload_n hx hb d_M_within_39 rfl (lv_at hl 1 rfl) ?_
        refine lv_icmp_ne (tgt := 47) hx hb d_M_within_40 (by decide) (fun c40 => ?_) (fun c40 => ?_)
        · have h := ite_f c40 h
          refine lv_iconst (v := 0) hx hb d_M_within_47 (by decide) ?_
          exact w_M_within_48 C n kc hk x1 x2 x4 (0 : Int32) x3 h hW hS (lv_sub hl [0, 1, 2, 4] rfl)
        · have h := ite_t c40 h
          exact w_M_within_43 C n kc hk x1 x2 x4 x3 h hW hS (lv_sub hl [0, 1, 2, 4] rfl)
set_option maxHeartbeats 4000000 in
set_option maxRecDepth 100000 in
theorem w_M_within_7 (C : CB p s m args c meth b_M_within "TwoLevelParserModel" 5 (some .int) D cA z ac) (n : Nat) (k : Nat) {r : Int32} : ∀ (x1 : Int32) (x2 : Int32) (x3 : Int32) (x4 : Int32) {S : HS} {H : Heap} {locs : List Loc} {ls : Array Slot}, f_M_within_b7 n k x1 x2 x3 x4 S = some r → HW D cA z ac E1 ad S H → va_S (zA z) s.heap H locs → lv_has ls 5 [(0, .ref (ad 200)), (1, .int (x1)), (2, .int (x2)), (3, .int (x3)), (4, .int (x4))] → GW p l e 0 s m args below meth c D cA z ac E1 ad (some (.int r)) S H locs (F0 m 7 ls []) := by
  induction k with
  | zero => intro x1 x2 x3 x4 S H locs ls h; cases h
  | succ k ih => intro x1 x2 x3 x4 S H locs ls h hW hS hl; exact w_M_within_7B C n (f_M_within_b7 n k) (fun x1 x2 x3 x4 S H locs ls h hW hS hl => ih x1 x2 x3 x4 h hW hS hl) x1 x2 x3 x4 h hW hS hl
set_option maxHeartbeats 4000000 in
set_option maxRecDepth 100000 in
theorem s_M_within (n : Nat) (x1 : Int32) (x2 : Int32) {S : HS} {r : Int32} (h : f_M_within n x1 x2 S = some r) : Met l y_M_within (.code y_M_within b_M_within 5 (some .int) :: lw_g) (rmD 0 0 0) (PcH D cA z ac E1 ad [.ref (ad 200), .int (x1), .int (x2)] S) (QN D cA z ac E1 ad (some (.int r)) S) 0 0 (zA z) := by
  refine Met.ofH (own := "TwoLevelParserModel") (by decide) rfl (Nat.le_of_ble_eq_true rfl) ?_
  intro p e s m args below meth c H ls C hW hS hl
  have hl : lv_has ls 5 [(0, .ref (ad 200)), (1, .int (x1)), (2, .int (x2))] := hl
  obtain ⟨⟨hx, hb, hml, hown, hts⟩, hK, hr, hlo⟩ := id C
  unfold f_M_within at h
  refine lv_iconst (v := 0) hx hb d_M_within_0 (by decide) ?_
  obtain ⟨v1, ev1, h⟩ := lt_some h
  refine lt_i_n (lv' := [(3, .int (v1)), (0, .ref (ad 200)), (1, .int (x1)), (2, .int (x2))]) C d_M_within_1 rfl hl (by decide) ev1 rfl (fun ls hl => ?_)
  refine lv_iload_n hx hb d_M_within_2 rfl (lv_at hl 2 rfl) ?_
  refine lv_iconst (v := 1) hx hb d_M_within_3 (by decide) ?_
  refine lv_iadd hx hb d_M_within_4 ?_
  obtain ⟨v2, ev2, h⟩ := lt_some h
  refine lt_i (lv' := [(4, .int (v2)), (3, .int (v1)), (0, .ref (ad 200)), (1, .int (x1)), (2, .int (x2))]) C d_M_within_5 hl (by decide) ev2 rfl (fun ls hl => ?_)
  exact w_M_within_7 C n n x1 x2 v1 v2 h hW hS (lv_sub hl [2, 3, 4, 1, 0] rfl)
end WK
def f_M_name (x1 : Int32) (x2 : Int32) (S : HS) : Option (Int64 × HS) :=
  lt (sF S 200 0 (0 : Int32)) fun S1 =>
  (if x1 < 0 then
  some ((0 : Int64), S1)
  else
  (if (gF S1 200 19) ≤ x1 then
  some ((0 : Int64), S1)
  else
  (if x2 < 0 then
  some ((0 : Int64), S1)
  else
  (if x2 ≤ (1 : Int32) then
  (if x2 = 0 then
  gd (inR x1 8192) <|
  some ((gL S1 227 x1.toNatClampNeg), S1)
  else
  gd (inR x1 8192) <|
  some ((gL S1 228 x1.toNatClampNeg), S1))
  else
  some ((0 : Int64), S1)))))
section WK
variable {p : Program} {l : Launch} {e : Env} {s : State} {m : MethodId} {args : Array Value} {below : List Frame} {meth : Method} {c : Code} {D : va_G} {cA : Nat → ClassId} {z : Nat} {ac : Nat → Nat} {ad : Nat → Nat}
set_option maxHeartbeats 4000000 in
set_option maxRecDepth 100000 in
theorem s_M_name (x1 : Int32) (x2 : Int32) {S : HS} {r : Int64} {S' : HS} (h : f_M_name x1 x2 S = some (r, S')) : Met l y_M_name (.code y_M_name b_M_name 3 (some .long) :: lw_g) (rmD 0 0 0) (PcH D cA z ac E1 ad [.ref (ad 200), .int (x1), .int (x2)] S) (QN D cA z ac E1 ad (some (.long r)) S') 0 0 (zA z) := by
  refine Met.ofH (own := "TwoLevelParserModel") (by decide) rfl (Nat.le_of_ble_eq_true rfl) ?_
  intro p e s m args below meth c H ls C hW hS hl
  have hl : lv_has ls 3 [(0, .ref (ad 200)), (1, .int (x1)), (2, .int (x2))] := hl
  obtain ⟨⟨hx, hb, hml, hown, hts⟩, hK, hr, hlo⟩ := id C
  unfold f_M_name at h
  refine lv_aload_n hx hb d_M_name_0 rfl (lv_at hl 0 rfl) ?_
  refine lv_iconst (v := 0) hx hb d_M_name_1 (by decide) ?_
  obtain ⟨S1, eS1, h⟩ := lt_some h
  refine hp_i C hW hS 200 0 (hW.fx 200 rfl) rfl q_M (by decide) rfl rfl rfl (lkF C kf_M_77) eS1 d_M_name_2 (fun H locs hW hS => ?_)
  refine lv_iload_n hx hb d_M_name_5 rfl (lv_at hl 1 rfl) ?_
  refine lv_if_lt (tgt := 26) hx hb d_M_name_6 (by decide) (fun c6 => ?_) (fun c6 => ?_)
  · have h := ite_t c6 h
    refine lv_lconst (v := 0) hx hb d_M_name_26 (by decide) ?_
    refine lv_goto (tgt := 49) hx hb d_M_name_27 (by decide) ?_
    obtain ⟨hr1, hr2⟩ := Prod.mk.inj (Option.some.inj h)
    subst hr1
    subst hr2
    exact he_l C hW hS d_M_name_49
  · have h := ite_f c6 h
    refine lv_iload_n hx hb d_M_name_9 rfl (lv_at hl 1 rfl) ?_
    refine lv_aload_n hx hb d_M_name_10 rfl (lv_at hl 0 rfl) ?_
    refine hg_i C hW 200 19 (hW.fx 200 rfl) rfl q_M (by decide) rfl (lkF C kf_M_207) d_M_name_11 ?_
    refine lv_icmp_ge (tgt := 26) hx hb d_M_name_14 (by decide) (fun c14 => ?_) (fun c14 => ?_)
    · have h := ite_t c14 h
      refine lv_lconst (v := 0) hx hb d_M_name_26 (by decide) ?_
      refine lv_goto (tgt := 49) hx hb d_M_name_27 (by decide) ?_
      obtain ⟨hr1, hr2⟩ := Prod.mk.inj (Option.some.inj h)
      subst hr1
      subst hr2
      exact he_l C hW hS d_M_name_49
    · have h := ite_f c14 h
      refine lv_iload_n hx hb d_M_name_17 rfl (lv_at hl 2 rfl) ?_
      refine lv_if_lt (tgt := 26) hx hb d_M_name_18 (by decide) (fun c18 => ?_) (fun c18 => ?_)
      · have h := ite_t c18 h
        refine lv_lconst (v := 0) hx hb d_M_name_26 (by decide) ?_
        refine lv_goto (tgt := 49) hx hb d_M_name_27 (by decide) ?_
        obtain ⟨hr1, hr2⟩ := Prod.mk.inj (Option.some.inj h)
        subst hr1
        subst hr2
        exact he_l C hW hS d_M_name_49
      · have h := ite_f c18 h
        refine lv_iload_n hx hb d_M_name_21 rfl (lv_at hl 2 rfl) ?_
        refine lv_iconst (v := 1) hx hb d_M_name_22 (by decide) ?_
        refine lv_icmp_le (tgt := 30) hx hb d_M_name_23 (by decide) (fun c23 => ?_) (fun c23 => ?_)
        · have h := ite_t c23 h
          refine lv_iload_n hx hb d_M_name_30 rfl (lv_at hl 2 rfl) ?_
          refine lv_if_ne (tgt := 43) hx hb d_M_name_31 (by decide) (fun c31 => ?_) (fun c31 => ?_)
          · have h := ite_f c31 h
            refine lv_aload_n hx hb d_M_name_43 rfl (lv_at hl 0 rfl) ?_
            refine hg_r (j := 228) C hW 200 28 (hW.fx 200 rfl) rfl q_M (by decide) rfl (hW.fn (E := E1) (i := 200) (k := 28) rfl) (lkF C kf_M_67) d_M_name_44 ?_
            refine lv_iload_n hx hb d_M_name_47 rfl (lv_at hl 1 rfl) ?_
            obtain ⟨g2, h⟩ := gd_some h
            refine ha_l C hW 228 (hW.fx 228 rfl) rfl rfl g2 d_M_name_48 ?_
            obtain ⟨hr1, hr2⟩ := Prod.mk.inj (Option.some.inj h)
            subst hr1
            subst hr2
            exact he_l C hW hS d_M_name_49
          · have h := ite_t c31 h
            refine lv_aload_n hx hb d_M_name_34 rfl (lv_at hl 0 rfl) ?_
            refine hg_r (j := 227) C hW 200 27 (hW.fx 200 rfl) rfl q_M (by decide) rfl (hW.fn (E := E1) (i := 200) (k := 27) rfl) (lkF C kf_M_64) d_M_name_35 ?_
            refine lv_iload_n hx hb d_M_name_38 rfl (lv_at hl 1 rfl) ?_
            obtain ⟨g3, h⟩ := gd_some h
            refine ha_l C hW 227 (hW.fx 227 rfl) rfl rfl g3 d_M_name_39 ?_
            refine lv_goto (tgt := 49) hx hb d_M_name_40 (by decide) ?_
            obtain ⟨hr1, hr2⟩ := Prod.mk.inj (Option.some.inj h)
            subst hr1
            subst hr2
            exact he_l C hW hS d_M_name_49
        · have h := ite_f c23 h
          refine lv_lconst (v := 0) hx hb d_M_name_26 (by decide) ?_
          refine lv_goto (tgt := 49) hx hb d_M_name_27 (by decide) ?_
          obtain ⟨hr1, hr2⟩ := Prod.mk.inj (Option.some.inj h)
          subst hr1
          subst hr2
          exact he_l C hW hS d_M_name_49
end WK
def f_M_number (x1 : Int32) (S : HS) : Option (Int32 × HS) :=
  lt (sF S 200 0 (0 : Int32)) fun S1 =>
  (if x1 < 0 then
  some ((0 : Int32), S1)
  else
  (if x1 < (gF S1 200 19) then
  gd (inR x1 8192) <|
  some ((gF S1 226 x1.toNatClampNeg), S1)
  else
  some ((0 : Int32), S1)))
section WK
variable {p : Program} {l : Launch} {e : Env} {s : State} {m : MethodId} {args : Array Value} {below : List Frame} {meth : Method} {c : Code} {D : va_G} {cA : Nat → ClassId} {z : Nat} {ac : Nat → Nat} {ad : Nat → Nat}
set_option maxHeartbeats 4000000 in
set_option maxRecDepth 100000 in
theorem s_M_number (x1 : Int32) {S : HS} {r : Int32} {S' : HS} (h : f_M_number x1 S = some (r, S')) : Met l y_M_number (.code y_M_number b_M_number 2 (some .int) :: lw_g) (rmD 0 0 0) (PcH D cA z ac E1 ad [.ref (ad 200), .int (x1)] S) (QN D cA z ac E1 ad (some (.int r)) S') 0 0 (zA z) := by
  refine Met.ofH (own := "TwoLevelParserModel") (by decide) rfl (Nat.le_of_ble_eq_true rfl) ?_
  intro p e s m args below meth c H ls C hW hS hl
  have hl : lv_has ls 2 [(0, .ref (ad 200)), (1, .int (x1))] := hl
  obtain ⟨⟨hx, hb, hml, hown, hts⟩, hK, hr, hlo⟩ := id C
  unfold f_M_number at h
  refine lv_aload_n hx hb d_M_number_0 rfl (lv_at hl 0 rfl) ?_
  refine lv_iconst (v := 0) hx hb d_M_number_1 (by decide) ?_
  obtain ⟨S1, eS1, h⟩ := lt_some h
  refine hp_i C hW hS 200 0 (hW.fx 200 rfl) rfl q_M (by decide) rfl rfl rfl (lkF C kf_M_77) eS1 d_M_number_2 (fun H locs hW hS => ?_)
  refine lv_iload_n hx hb d_M_number_5 rfl (lv_at hl 1 rfl) ?_
  refine lv_if_lt (tgt := 17) hx hb d_M_number_6 (by decide) (fun c6 => ?_) (fun c6 => ?_)
  · have h := ite_t c6 h
    refine lv_iconst (v := 0) hx hb d_M_number_17 (by decide) ?_
    refine lv_goto (tgt := 27) hx hb d_M_number_18 (by decide) ?_
    obtain ⟨hr1, hr2⟩ := Prod.mk.inj (Option.some.inj h)
    subst hr1
    subst hr2
    exact he_i C hW hS d_M_number_27
  · have h := ite_f c6 h
    refine lv_iload_n hx hb d_M_number_9 rfl (lv_at hl 1 rfl) ?_
    refine lv_aload_n hx hb d_M_number_10 rfl (lv_at hl 0 rfl) ?_
    refine hg_i C hW 200 19 (hW.fx 200 rfl) rfl q_M (by decide) rfl (lkF C kf_M_207) d_M_number_11 ?_
    refine lv_icmp_lt (tgt := 21) hx hb d_M_number_14 (by decide) (fun c14 => ?_) (fun c14 => ?_)
    · have h := ite_t c14 h
      refine lv_aload_n hx hb d_M_number_21 rfl (lv_at hl 0 rfl) ?_
      refine hg_r (j := 226) C hW 200 26 (hW.fx 200 rfl) rfl q_M (by decide) rfl (hW.fn (E := E1) (i := 200) (k := 26) rfl) (lkF C kf_M_61) d_M_number_22 ?_
      refine lv_iload_n hx hb d_M_number_25 rfl (lv_at hl 1 rfl) ?_
      obtain ⟨g2, h⟩ := gd_some h
      refine ha_i C hW 226 (hW.fx 226 rfl) rfl rfl g2 d_M_number_26 ?_
      obtain ⟨hr1, hr2⟩ := Prod.mk.inj (Option.some.inj h)
      subst hr1
      subst hr2
      exact he_i C hW hS d_M_number_27
    · have h := ite_f c14 h
      refine lv_iconst (v := 0) hx hb d_M_number_17 (by decide) ?_
      refine lv_goto (tgt := 27) hx hb d_M_number_18 (by decide) ?_
      obtain ⟨hr1, hr2⟩ := Prod.mk.inj (Option.some.inj h)
      subst hr1
      subst hr2
      exact he_i C hW hS d_M_number_27
end WK
def f_M_look (x1 : Int32) (S : HS) : Option (Int32 × HS) :=
  lt (sF S 200 0 (0 : Int32)) fun S1 =>
  (if x1 = 0 then
  some ((gF S1 200 2), S1)
  else
  (if x1 = (1 : Int32) then
  some ((gF S1 200 3), S1)
  else
  (if x1 = (2 : Int32) then
  some ((gF S1 200 4), S1)
  else
  (if x1 = (3 : Int32) then
  some ((gF S1 200 10), S1)
  else
  (if x1 = (4 : Int32) then
  some ((gF S1 200 19), S1)
  else
  some ((-1 : Int32), S1))))))
section WK
variable {p : Program} {l : Launch} {e : Env} {s : State} {m : MethodId} {args : Array Value} {below : List Frame} {meth : Method} {c : Code} {D : va_G} {cA : Nat → ClassId} {z : Nat} {ac : Nat → Nat} {ad : Nat → Nat}
set_option maxHeartbeats 4000000 in
set_option maxRecDepth 100000 in
theorem s_M_look (x1 : Int32) {S : HS} {r : Int32} {S' : HS} (h : f_M_look x1 S = some (r, S')) : Met l y_M_look (.code y_M_look b_M_look 2 (some .int) :: lw_g) (rmD 0 0 0) (PcH D cA z ac E1 ad [.ref (ad 200), .int (x1)] S) (QN D cA z ac E1 ad (some (.int r)) S') 0 0 (zA z) := by
  refine Met.ofH (own := "TwoLevelParserModel") (by decide) rfl (Nat.le_of_ble_eq_true rfl) ?_
  intro p e s m args below meth c H ls C hW hS hl
  have hl : lv_has ls 2 [(0, .ref (ad 200)), (1, .int (x1))] := hl
  obtain ⟨⟨hx, hb, hml, hown, hts⟩, hK, hr, hlo⟩ := id C
  unfold f_M_look at h
  refine lv_aload_n hx hb d_M_look_0 rfl (lv_at hl 0 rfl) ?_
  refine lv_iconst (v := 0) hx hb d_M_look_1 (by decide) ?_
  obtain ⟨S1, eS1, h⟩ := lt_some h
  refine hp_i C hW hS 200 0 (hW.fx 200 rfl) rfl q_M (by decide) rfl rfl rfl (lkF C kf_M_77) eS1 d_M_look_2 (fun H locs hW hS => ?_)
  refine lv_iload_n hx hb d_M_look_5 rfl (lv_at hl 1 rfl) ?_
  refine lv_if_ne (tgt := 16) hx hb d_M_look_6 (by decide) (fun c6 => ?_) (fun c6 => ?_)
  · have h := ite_f c6 h
    refine lv_iload_n hx hb d_M_look_16 rfl (lv_at hl 1 rfl) ?_
    refine lv_iconst (v := 1) hx hb d_M_look_17 (by decide) ?_
    refine lv_icmp_ne (tgt := 28) hx hb d_M_look_18 (by decide) (fun c18 => ?_) (fun c18 => ?_)
    · have h := ite_f c18 h
      refine lv_iload_n hx hb d_M_look_28 rfl (lv_at hl 1 rfl) ?_
      refine lv_iconst (v := 2) hx hb d_M_look_29 (by decide) ?_
      refine lv_icmp_ne (tgt := 40) hx hb d_M_look_30 (by decide) (fun c30 => ?_) (fun c30 => ?_)
      · have h := ite_f c30 h
        refine lv_iload_n hx hb d_M_look_40 rfl (lv_at hl 1 rfl) ?_
        refine lv_iconst (v := 3) hx hb d_M_look_41 (by decide) ?_
        refine lv_icmp_ne (tgt := 52) hx hb d_M_look_42 (by decide) (fun c42 => ?_) (fun c42 => ?_)
        · have h := ite_f c42 h
          refine lv_iload_n hx hb d_M_look_52 rfl (lv_at hl 1 rfl) ?_
          refine lv_iconst (v := 4) hx hb d_M_look_53 (by decide) ?_
          refine lv_icmp_ne (tgt := 64) hx hb d_M_look_54 (by decide) (fun c54 => ?_) (fun c54 => ?_)
          · have h := ite_f c54 h
            refine lv_iconst (v := -1) hx hb d_M_look_64 (by decide) ?_
            obtain ⟨hr1, hr2⟩ := Prod.mk.inj (Option.some.inj h)
            subst hr1
            subst hr2
            exact he_i C hW hS d_M_look_65
          · have h := ite_t c54 h
            refine lv_aload_n hx hb d_M_look_57 rfl (lv_at hl 0 rfl) ?_
            refine hg_i C hW 200 19 (hW.fx 200 rfl) rfl q_M (by decide) rfl (lkF C kf_M_207) d_M_look_58 ?_
            refine lv_goto (tgt := 65) hx hb d_M_look_61 (by decide) ?_
            obtain ⟨hr1, hr2⟩ := Prod.mk.inj (Option.some.inj h)
            subst hr1
            subst hr2
            exact he_i C hW hS d_M_look_65
        · have h := ite_t c42 h
          refine lv_aload_n hx hb d_M_look_45 rfl (lv_at hl 0 rfl) ?_
          refine hg_i C hW 200 10 (hW.fx 200 rfl) rfl q_M (by decide) rfl (lkF C kf_M_251) d_M_look_46 ?_
          refine lv_goto (tgt := 65) hx hb d_M_look_49 (by decide) ?_
          obtain ⟨hr1, hr2⟩ := Prod.mk.inj (Option.some.inj h)
          subst hr1
          subst hr2
          exact he_i C hW hS d_M_look_65
      · have h := ite_t c30 h
        refine lv_aload_n hx hb d_M_look_33 rfl (lv_at hl 0 rfl) ?_
        refine hg_i C hW 200 4 (hW.fx 200 rfl) rfl q_M (by decide) rfl (lkF C kf_M_13) d_M_look_34 ?_
        refine lv_goto (tgt := 65) hx hb d_M_look_37 (by decide) ?_
        obtain ⟨hr1, hr2⟩ := Prod.mk.inj (Option.some.inj h)
        subst hr1
        subst hr2
        exact he_i C hW hS d_M_look_65
    · have h := ite_t c18 h
      refine lv_aload_n hx hb d_M_look_21 rfl (lv_at hl 0 rfl) ?_
      refine hg_i C hW 200 3 (hW.fx 200 rfl) rfl q_M (by decide) rfl (lkF C kf_M_83) d_M_look_22 ?_
      refine lv_goto (tgt := 65) hx hb d_M_look_25 (by decide) ?_
      obtain ⟨hr1, hr2⟩ := Prod.mk.inj (Option.some.inj h)
      subst hr1
      subst hr2
      exact he_i C hW hS d_M_look_65
  · have h := ite_t c6 h
    refine lv_aload_n hx hb d_M_look_9 rfl (lv_at hl 0 rfl) ?_
    refine hg_i C hW 200 2 (hW.fx 200 rfl) rfl q_M (by decide) rfl (lkF C kf_M_80) d_M_look_10 ?_
    refine lv_goto (tgt := 65) hx hb d_M_look_13 (by decide) ?_
    obtain ⟨hr1, hr2⟩ := Prod.mk.inj (Option.some.inj h)
    subst hr1
    subst hr2
    exact he_i C hW hS d_M_look_65
end WK
def f_M_definition (x1 : Int32) (x2 : Int32) (S : HS) : Option (Int32 × HS) :=
  lt (sF S 200 0 (0 : Int32)) fun S1 =>
  ob (f_M_isDefinition x1 S1) fun r2 =>
  (if r2 = 0 then
  some ((-1 : Int32), S1)
  else
  (if x2 = 0 then
  gd (inR x1 64) <|
  some ((gF S1 211 x1.toNatClampNeg), S1)
  else
  (if x2 = (1 : Int32) then
  gd (inR x1 64) <|
  some ((gF S1 212 x1.toNatClampNeg), S1)
  else
  (if x2 = (2 : Int32) then
  gd (inR x1 64) <|
  some ((gF S1 213 x1.toNatClampNeg), S1)
  else
  (if x2 = (3 : Int32) then
  gd (inR x1 64) <|
  some ((gF S1 214 x1.toNatClampNeg), S1)
  else
  (if x2 = (4 : Int32) then
  gd (inR x1 64) <|
  some ((gF S1 215 x1.toNatClampNeg), S1)
  else
  some ((-1 : Int32), S1)))))))
section WK
variable {p : Program} {l : Launch} {e : Env} {s : State} {m : MethodId} {args : Array Value} {below : List Frame} {meth : Method} {c : Code} {D : va_G} {cA : Nat → ClassId} {z : Nat} {ac : Nat → Nat} {ad : Nat → Nat}
set_option maxHeartbeats 4000000 in
set_option maxRecDepth 100000 in
theorem s_M_definition (x1 : Int32) (x2 : Int32) {S : HS} {r : Int32} {S' : HS} (h : f_M_definition x1 x2 S = some (r, S')) : Met l y_M_definition (.code y_M_definition b_M_definition 3 (some .int) :: lw_g) (rmD 1 0 0) (PcH D cA z ac E1 ad [.ref (ad 200), .int (x1), .int (x2)] S) (QN D cA z ac E1 ad (some (.int r)) S') 0 0 (zA z) := by
  refine Met.ofH (own := "TwoLevelParserModel") (by decide) rfl (Nat.le_of_ble_eq_true rfl) ?_
  intro p e s m args below meth c H ls C hW hS hl
  have hl : lv_has ls 3 [(0, .ref (ad 200)), (1, .int (x1)), (2, .int (x2))] := hl
  obtain ⟨⟨hx, hb, hml, hown, hts⟩, hK, hr, hlo⟩ := id C
  unfold f_M_definition at h
  refine lv_aload_n hx hb d_M_definition_0 rfl (lv_at hl 0 rfl) ?_
  refine lv_iconst (v := 0) hx hb d_M_definition_1 (by decide) ?_
  obtain ⟨S1, eS1, h⟩ := lt_some h
  refine hp_i C hW hS 200 0 (hW.fx 200 rfl) rfl q_M (by decide) rfl rfl rfl (lkF C kf_M_77) eS1 d_M_definition_2 (fun H locs hW hS => ?_)
  refine lv_aload_n hx hb d_M_definition_5 rfl (lv_at hl 0 rfl) ?_
  refine lv_iload_n hx hb d_M_definition_6 rfl (lv_at hl 1 rfl) ?_
  obtain ⟨r2, er2, h⟩ := ob_some h
  refine hx_V (i := 200) (As := [.int (x1)]) (rest := []) C hW hS (s_M_isDefinition x1 er2) km_M_264 kv_M_isDefinition ke_M_isDefinition kn_M kw_M_isDefinition kd_M_isDefinition (hW.fx 200 rfl) rfl q_M rfl ⟨by decide, by decide⟩ ⟨Nat.zero_le _, Nat.zero_le _⟩ rfl hl.1 rfl (Nat.le_of_ble_eq_true rfl) d_M_definition_7 (fun H locs hW hS => ?_)
  refine lv_if_ne (tgt := 15) hx hb d_M_definition_10 (by decide) (fun c10 => ?_) (fun c10 => ?_)
  · have h := ite_f c10 h
    refine lv_iload_n hx hb d_M_definition_15 rfl (lv_at hl 2 rfl) ?_
    refine lv_if_ne (tgt := 28) hx hb d_M_definition_16 (by decide) (fun c16 => ?_) (fun c16 => ?_)
    · have h := ite_f c16 h
      refine lv_iload_n hx hb d_M_definition_28 rfl (lv_at hl 2 rfl) ?_
      refine lv_iconst (v := 1) hx hb d_M_definition_29 (by decide) ?_
      refine lv_icmp_ne (tgt := 42) hx hb d_M_definition_30 (by decide) (fun c30 => ?_) (fun c30 => ?_)
      · have h := ite_f c30 h
        refine lv_iload_n hx hb d_M_definition_42 rfl (lv_at hl 2 rfl) ?_
        refine lv_iconst (v := 2) hx hb d_M_definition_43 (by decide) ?_
        refine lv_icmp_ne (tgt := 56) hx hb d_M_definition_44 (by decide) (fun c44 => ?_) (fun c44 => ?_)
        · have h := ite_f c44 h
          refine lv_iload_n hx hb d_M_definition_56 rfl (lv_at hl 2 rfl) ?_
          refine lv_iconst (v := 3) hx hb d_M_definition_57 (by decide) ?_
          refine lv_icmp_ne (tgt := 70) hx hb d_M_definition_58 (by decide) (fun c58 => ?_) (fun c58 => ?_)
          · have h := ite_f c58 h
            refine lv_iload_n hx hb d_M_definition_70 rfl (lv_at hl 2 rfl) ?_
            refine lv_iconst (v := 4) hx hb d_M_definition_71 (by decide) ?_
            refine lv_icmp_ne (tgt := 84) hx hb d_M_definition_72 (by decide) (fun c72 => ?_) (fun c72 => ?_)
            · have h := ite_f c72 h
              refine lv_iconst (v := -1) hx hb d_M_definition_84 (by decide) ?_
              obtain ⟨hr1, hr2⟩ := Prod.mk.inj (Option.some.inj h)
              subst hr1
              subst hr2
              exact he_i C hW hS d_M_definition_85
            · have h := ite_t c72 h
              refine lv_aload_n hx hb d_M_definition_75 rfl (lv_at hl 0 rfl) ?_
              refine hg_r (j := 215) C hW 200 15 (hW.fx 200 rfl) rfl q_M (by decide) rfl (hW.fn (E := E1) (i := 200) (k := 15) rfl) (lkF C kf_M_30) d_M_definition_76 ?_
              refine lv_iload_n hx hb d_M_definition_79 rfl (lv_at hl 1 rfl) ?_
              obtain ⟨g3, h⟩ := gd_some h
              refine ha_i C hW 215 (hW.fx 215 rfl) rfl rfl g3 d_M_definition_80 ?_
              refine lv_goto (tgt := 85) hx hb d_M_definition_81 (by decide) ?_
              obtain ⟨hr1, hr2⟩ := Prod.mk.inj (Option.some.inj h)
              subst hr1
              subst hr2
              exact he_i C hW hS d_M_definition_85
          · have h := ite_t c58 h
            refine lv_aload_n hx hb d_M_definition_61 rfl (lv_at hl 0 rfl) ?_
            refine hg_r (j := 214) C hW 200 14 (hW.fx 200 rfl) rfl q_M (by decide) rfl (hW.fn (E := E1) (i := 200) (k := 14) rfl) (lkF C kf_M_27) d_M_definition_62 ?_
            refine lv_iload_n hx hb d_M_definition_65 rfl (lv_at hl 1 rfl) ?_
            obtain ⟨g4, h⟩ := gd_some h
            refine ha_i C hW 214 (hW.fx 214 rfl) rfl rfl g4 d_M_definition_66 ?_
            refine lv_goto (tgt := 85) hx hb d_M_definition_67 (by decide) ?_
            obtain ⟨hr1, hr2⟩ := Prod.mk.inj (Option.some.inj h)
            subst hr1
            subst hr2
            exact he_i C hW hS d_M_definition_85
        · have h := ite_t c44 h
          refine lv_aload_n hx hb d_M_definition_47 rfl (lv_at hl 0 rfl) ?_
          refine hg_r (j := 213) C hW 200 13 (hW.fx 200 rfl) rfl q_M (by decide) rfl (hW.fn (E := E1) (i := 200) (k := 13) rfl) (lkF C kf_M_24) d_M_definition_48 ?_
          refine lv_iload_n hx hb d_M_definition_51 rfl (lv_at hl 1 rfl) ?_
          obtain ⟨g5, h⟩ := gd_some h
          refine ha_i C hW 213 (hW.fx 213 rfl) rfl rfl g5 d_M_definition_52 ?_
          refine lv_goto (tgt := 85) hx hb d_M_definition_53 (by decide) ?_
          obtain ⟨hr1, hr2⟩ := Prod.mk.inj (Option.some.inj h)
          subst hr1
          subst hr2
          exact he_i C hW hS d_M_definition_85
      · have h := ite_t c30 h
        refine lv_aload_n hx hb d_M_definition_33 rfl (lv_at hl 0 rfl) ?_
        refine hg_r (j := 212) C hW 200 12 (hW.fx 200 rfl) rfl q_M (by decide) rfl (hW.fn (E := E1) (i := 200) (k := 12) rfl) (lkF C kf_M_21) d_M_definition_34 ?_
        refine lv_iload_n hx hb d_M_definition_37 rfl (lv_at hl 1 rfl) ?_
        obtain ⟨g6, h⟩ := gd_some h
        refine ha_i C hW 212 (hW.fx 212 rfl) rfl rfl g6 d_M_definition_38 ?_
        refine lv_goto (tgt := 85) hx hb d_M_definition_39 (by decide) ?_
        obtain ⟨hr1, hr2⟩ := Prod.mk.inj (Option.some.inj h)
        subst hr1
        subst hr2
        exact he_i C hW hS d_M_definition_85
    · have h := ite_t c16 h
      refine lv_aload_n hx hb d_M_definition_19 rfl (lv_at hl 0 rfl) ?_
      refine hg_r (j := 211) C hW 200 11 (hW.fx 200 rfl) rfl q_M (by decide) rfl (hW.fn (E := E1) (i := 200) (k := 11) rfl) (lkF C kf_M_17) d_M_definition_20 ?_
      refine lv_iload_n hx hb d_M_definition_23 rfl (lv_at hl 1 rfl) ?_
      obtain ⟨g7, h⟩ := gd_some h
      refine ha_i C hW 211 (hW.fx 211 rfl) rfl rfl g7 d_M_definition_24 ?_
      refine lv_goto (tgt := 85) hx hb d_M_definition_25 (by decide) ?_
      obtain ⟨hr1, hr2⟩ := Prod.mk.inj (Option.some.inj h)
      subst hr1
      subst hr2
      exact he_i C hW hS d_M_definition_85
  · have h := ite_t c10 h
    refine lv_iconst (v := -1) hx hb d_M_definition_13 (by decide) ?_
    obtain ⟨hr1, hr2⟩ := Prod.mk.inj (Option.some.inj h)
    subst hr1
    subst hr2
    exact he_i C hW hS d_M_definition_14
end WK
def f_M_title_b36 (x1 : Int32) (x2 : Int32) (y0 : Int32) (y2 : Int32) (S : HS) : Option (Int64 × HS) :=
  gd (inR y0 64) <|
  (if y2 < (gF S 213 y0.toNatClampNeg) then
  (if 0 ≤ x2 then
  gd (inR (((8 : Int32) * x1) + x2) 512) <|
  some ((gL S 217 (((8 : Int32) * x1) + x2).toNatClampNeg), S)
  else
  gd (inR x1 64) <|
  some ((gL S 216 x1.toNatClampNeg), S))
  else
  some ((0 : Int64), S))
def f_M_title (x1 : Int32) (x2 : Int32) (S : HS) : Option (Int64 × HS) :=
  lt (sF S 200 0 (0 : Int32)) fun S1 =>
  ob (f_M_isDefinition x1 S1) fun r2 =>
  (if r2 = 0 then
  some ((0 : Int64), S1)
  else
  (if x2 < (-1 : Int32) then
  some ((0 : Int64), S1)
  else
  ob (f_M_isDefinition x1 S1) fun r3 =>
  (if r3 = 0 then
  f_M_title_b36 x1 x2 (0 : Int32) x2 S1
  else
  f_M_title_b36 x1 x2 x1 x2 S1)))
section WK
variable {p : Program} {l : Launch} {e : Env} {s : State} {m : MethodId} {args : Array Value} {below : List Frame} {meth : Method} {c : Code} {D : va_G} {cA : Nat → ClassId} {z : Nat} {ac : Nat → Nat} {ad : Nat → Nat}
set_option maxHeartbeats 4000000 in
set_option maxRecDepth 100000 in
theorem w_M_title_36 (C : CB p s m args c meth b_M_title "TwoLevelParserModel" 3 (some .long) D cA z ac) {r : Int64} {S' : HS} (x1 : Int32) (x2 : Int32) (y0 : Int32) (y2 : Int32) {S : HS} {H : Heap} {locs : List Loc} {ls : Array Slot} (h : f_M_title_b36 x1 x2 y0 y2 S = some (r, S')) (hW : HW D cA z ac E1 ad S H) (hS : va_S (zA z) s.heap H locs) (hl : lv_has ls 3 [(0, .ref (ad 200)), (1, .int (x1)), (2, .int (x2))]) : GW p l e 1 s m args below meth c D cA z ac E1 ad (some (.long r)) S' H locs (F0 m 36 ls [.int (y0), .ref (ad 213), .int (y2)]) := by
  obtain ⟨⟨hx, hb, hml, hown, hts⟩, hK, hr, hlo⟩ := id C
  unfold f_M_title_b36 at h
  obtain ⟨g4, h⟩ := gd_some h
  refine ha_i C hW 213 (hW.fx 213 rfl) rfl rfl g4 d_M_title_36 ?_
  refine lv_icmp_lt (tgt := 42) hx hb d_M_title_37 (by decide) (fun c37 => ?_) (fun c37 => ?_)
  · have h := ite_t c37 h
    refine lv_iload_n hx hb d_M_title_42 rfl (lv_at hl 2 rfl) ?_
    refine lv_if_ge (tgt := 55) hx hb d_M_title_43 (by decide) (fun c43 => ?_) (fun c43 => ?_)
    · have h := ite_t c43 h
      refine lv_aload_n hx hb d_M_title_55 rfl (lv_at hl 0 rfl) ?_
      refine hg_r (j := 217) C hW 200 17 (hW.fx 200 rfl) rfl q_M (by decide) rfl (hW.fn (E := E1) (i := 200) (k := 17) rfl) (lkF C kf_M_37) d_M_title_56 ?_
      refine lv_bipush (v := 8) hx hb d_M_title_59 (by decide) ?_
      refine lv_iload_n hx hb d_M_title_61 rfl (lv_at hl 1 rfl) ?_
      refine lv_imul hx hb d_M_title_62 ?_
      refine lv_iload_n hx hb d_M_title_63 rfl (lv_at hl 2 rfl) ?_
      refine lv_iadd hx hb d_M_title_64 ?_
      obtain ⟨g5, h⟩ := gd_some h
      refine ha_l C hW 217 (hW.fx 217 rfl) rfl rfl g5 d_M_title_65 ?_
      obtain ⟨hr1, hr2⟩ := Prod.mk.inj (Option.some.inj h)
      subst hr1
      subst hr2
      exact he_l C hW hS d_M_title_66
    · have h := ite_f c43 h
      refine lv_aload_n hx hb d_M_title_46 rfl (lv_at hl 0 rfl) ?_
      refine hg_r (j := 216) C hW 200 16 (hW.fx 200 rfl) rfl q_M (by decide) rfl (hW.fn (E := E1) (i := 200) (k := 16) rfl) (lkF C kf_M_33) d_M_title_47 ?_
      refine lv_iload_n hx hb d_M_title_50 rfl (lv_at hl 1 rfl) ?_
      obtain ⟨g6, h⟩ := gd_some h
      refine ha_l C hW 216 (hW.fx 216 rfl) rfl rfl g6 d_M_title_51 ?_
      refine lv_goto (tgt := 66) hx hb d_M_title_52 (by decide) ?_
      obtain ⟨hr1, hr2⟩ := Prod.mk.inj (Option.some.inj h)
      subst hr1
      subst hr2
      exact he_l C hW hS d_M_title_66
  · have h := ite_f c37 h
    refine lv_lconst (v := 0) hx hb d_M_title_40 (by decide) ?_
    obtain ⟨hr1, hr2⟩ := Prod.mk.inj (Option.some.inj h)
    subst hr1
    subst hr2
    exact he_l C hW hS d_M_title_41
set_option maxHeartbeats 4000000 in
set_option maxRecDepth 100000 in
theorem s_M_title (x1 : Int32) (x2 : Int32) {S : HS} {r : Int64} {S' : HS} (h : f_M_title x1 x2 S = some (r, S')) : Met l y_M_title (.code y_M_title b_M_title 3 (some .long) :: lw_g) (rmD 1 0 0) (PcH D cA z ac E1 ad [.ref (ad 200), .int (x1), .int (x2)] S) (QN D cA z ac E1 ad (some (.long r)) S') 0 0 (zA z) := by
  refine Met.ofH (own := "TwoLevelParserModel") (by decide) rfl (Nat.le_of_ble_eq_true rfl) ?_
  intro p e s m args below meth c H ls C hW hS hl
  have hl : lv_has ls 3 [(0, .ref (ad 200)), (1, .int (x1)), (2, .int (x2))] := hl
  obtain ⟨⟨hx, hb, hml, hown, hts⟩, hK, hr, hlo⟩ := id C
  unfold f_M_title at h
  refine lv_aload_n hx hb d_M_title_0 rfl (lv_at hl 0 rfl) ?_
  refine lv_iconst (v := 0) hx hb d_M_title_1 (by decide) ?_
  obtain ⟨S1, eS1, h⟩ := lt_some h
  refine hp_i C hW hS 200 0 (hW.fx 200 rfl) rfl q_M (by decide) rfl rfl rfl (lkF C kf_M_77) eS1 d_M_title_2 (fun H locs hW hS => ?_)
  refine lv_aload_n hx hb d_M_title_5 rfl (lv_at hl 0 rfl) ?_
  refine lv_iload_n hx hb d_M_title_6 rfl (lv_at hl 1 rfl) ?_
  obtain ⟨r2, er2, h⟩ := ob_some h
  refine hx_V (i := 200) (As := [.int (x1)]) (rest := []) C hW hS (s_M_isDefinition x1 er2) km_M_264 kv_M_isDefinition ke_M_isDefinition kn_M kw_M_isDefinition kd_M_isDefinition (hW.fx 200 rfl) rfl q_M rfl ⟨by decide, by decide⟩ ⟨Nat.zero_le _, Nat.zero_le _⟩ rfl hl.1 rfl (Nat.le_of_ble_eq_true rfl) d_M_title_7 (fun H locs hW hS => ?_)
  refine lv_if_eq (tgt := 40) hx hb d_M_title_10 (by decide) (fun c10 => ?_) (fun c10 => ?_)
  · have h := ite_t c10 h
    refine lv_lconst (v := 0) hx hb d_M_title_40 (by decide) ?_
    obtain ⟨hr1, hr2⟩ := Prod.mk.inj (Option.some.inj h)
    subst hr1
    subst hr2
    exact he_l C hW hS d_M_title_41
  · have h := ite_f c10 h
    refine lv_iload_n hx hb d_M_title_13 rfl (lv_at hl 2 rfl) ?_
    refine lv_iconst (v := -1) hx hb d_M_title_14 (by decide) ?_
    refine lv_icmp_lt (tgt := 40) hx hb d_M_title_15 (by decide) (fun c15 => ?_) (fun c15 => ?_)
    · have h := ite_t c15 h
      refine lv_lconst (v := 0) hx hb d_M_title_40 (by decide) ?_
      obtain ⟨hr1, hr2⟩ := Prod.mk.inj (Option.some.inj h)
      subst hr1
      subst hr2
      exact he_l C hW hS d_M_title_41
    · have h := ite_f c15 h
      refine lv_iload_n hx hb d_M_title_18 rfl (lv_at hl 2 rfl) ?_
      refine lv_aload_n hx hb d_M_title_19 rfl (lv_at hl 0 rfl) ?_
      refine hg_r (j := 213) C hW 200 13 (hW.fx 200 rfl) rfl q_M (by decide) rfl (hW.fn (E := E1) (i := 200) (k := 13) rfl) (lkF C kf_M_24) d_M_title_20 ?_
      refine lv_aload_n hx hb d_M_title_23 rfl (lv_at hl 0 rfl) ?_
      refine lv_iload_n hx hb d_M_title_24 rfl (lv_at hl 1 rfl) ?_
      obtain ⟨r3, er3, h⟩ := ob_some h
      refine hx_V (i := 200) (As := [.int (x1)]) (rest := [.ref (ad 213), .int (x2)]) C hW hS (s_M_isDefinition x1 er3) km_M_264 kv_M_isDefinition ke_M_isDefinition kn_M kw_M_isDefinition kd_M_isDefinition (hW.fx 200 rfl) rfl q_M rfl ⟨by decide, by decide⟩ ⟨Nat.zero_le _, Nat.zero_le _⟩ rfl hl.1 rfl (Nat.le_of_ble_eq_true rfl) d_M_title_25 (fun H locs hW hS => ?_)
      refine lv_if_eq (tgt := 35) hx hb d_M_title_28 (by decide) (fun c28 => ?_) (fun c28 => ?_)
      · have h := ite_t c28 h
        refine lv_iconst (v := 0) hx hb d_M_title_35 (by decide) ?_
        exact w_M_title_36 C x1 x2 (0 : Int32) x2 h hW hS (lv_sub hl [0, 1, 2] rfl)
      · have h := ite_f c28 h
        refine lv_iload_n hx hb d_M_title_31 rfl (lv_at hl 1 rfl) ?_
        refine lv_goto (tgt := 36) hx hb d_M_title_32 (by decide) ?_
        exact w_M_title_36 C x1 x2 x1 x2 h hW hS (lv_sub hl [0, 1, 2] rfl)
end WK
def f_M_parameter_b35 (x1 : Int32) (x2 : Int32) (y0 : Int32) (y2 : Int32) (S : HS) : Option (Int32 × HS) :=
  gd (inR y0 64) <|
  (if (gF S 213 y0.toNatClampNeg) ≤ y2 then
  some ((-1 : Int32), S)
  else
  gd (inR (((8 : Int32) * x1) + x2) 512) <|
  some ((gF S 218 (((8 : Int32) * x1) + x2).toNatClampNeg), S))
def f_M_parameter (x1 : Int32) (x2 : Int32) (S : HS) : Option (Int32 × HS) :=
  lt (sF S 200 0 (0 : Int32)) fun S1 =>
  ob (f_M_isDefinition x1 S1) fun r2 =>
  (if r2 = 0 then
  some ((-1 : Int32), S1)
  else
  (if x2 < 0 then
  some ((-1 : Int32), S1)
  else
  ob (f_M_isDefinition x1 S1) fun r3 =>
  (if r3 = 0 then
  f_M_parameter_b35 x1 x2 (0 : Int32) x2 S1
  else
  f_M_parameter_b35 x1 x2 x1 x2 S1)))
section WK
variable {p : Program} {l : Launch} {e : Env} {s : State} {m : MethodId} {args : Array Value} {below : List Frame} {meth : Method} {c : Code} {D : va_G} {cA : Nat → ClassId} {z : Nat} {ac : Nat → Nat} {ad : Nat → Nat}
set_option maxHeartbeats 4000000 in
set_option maxRecDepth 100000 in
theorem w_M_parameter_35 (C : CB p s m args c meth b_M_parameter "TwoLevelParserModel" 3 (some .int) D cA z ac) {r : Int32} {S' : HS} (x1 : Int32) (x2 : Int32) (y0 : Int32) (y2 : Int32) {S : HS} {H : Heap} {locs : List Loc} {ls : Array Slot} (h : f_M_parameter_b35 x1 x2 y0 y2 S = some (r, S')) (hW : HW D cA z ac E1 ad S H) (hS : va_S (zA z) s.heap H locs) (hl : lv_has ls 3 [(0, .ref (ad 200)), (1, .int (x1)), (2, .int (x2))]) : GW p l e 1 s m args below meth c D cA z ac E1 ad (some (.int r)) S' H locs (F0 m 35 ls [.int (y0), .ref (ad 213), .int (y2)]) := by
  obtain ⟨⟨hx, hb, hml, hown, hts⟩, hK, hr, hlo⟩ := id C
  unfold f_M_parameter_b35 at h
  obtain ⟨g4, h⟩ := gd_some h
  refine ha_i C hW 213 (hW.fx 213 rfl) rfl rfl g4 d_M_parameter_35 ?_
  refine lv_icmp_ge (tgt := 53) hx hb d_M_parameter_36 (by decide) (fun c36 => ?_) (fun c36 => ?_)
  · have h := ite_t c36 h
    refine lv_iconst (v := -1) hx hb d_M_parameter_53 (by decide) ?_
    obtain ⟨hr1, hr2⟩ := Prod.mk.inj (Option.some.inj h)
    subst hr1
    subst hr2
    exact he_i C hW hS d_M_parameter_54
  · have h := ite_f c36 h
    refine lv_aload_n hx hb d_M_parameter_39 rfl (lv_at hl 0 rfl) ?_
    refine hg_r (j := 218) C hW 200 18 (hW.fx 200 rfl) rfl q_M (by decide) rfl (hW.fn (E := E1) (i := 200) (k := 18) rfl) (lkF C kf_M_40) d_M_parameter_40 ?_
    refine lv_bipush (v := 8) hx hb d_M_parameter_43 (by decide) ?_
    refine lv_iload_n hx hb d_M_parameter_45 rfl (lv_at hl 1 rfl) ?_
    refine lv_imul hx hb d_M_parameter_46 ?_
    refine lv_iload_n hx hb d_M_parameter_47 rfl (lv_at hl 2 rfl) ?_
    refine lv_iadd hx hb d_M_parameter_48 ?_
    obtain ⟨g5, h⟩ := gd_some h
    refine ha_i C hW 218 (hW.fx 218 rfl) rfl rfl g5 d_M_parameter_49 ?_
    refine lv_goto (tgt := 54) hx hb d_M_parameter_50 (by decide) ?_
    obtain ⟨hr1, hr2⟩ := Prod.mk.inj (Option.some.inj h)
    subst hr1
    subst hr2
    exact he_i C hW hS d_M_parameter_54
set_option maxHeartbeats 4000000 in
set_option maxRecDepth 100000 in
theorem s_M_parameter (x1 : Int32) (x2 : Int32) {S : HS} {r : Int32} {S' : HS} (h : f_M_parameter x1 x2 S = some (r, S')) : Met l y_M_parameter (.code y_M_parameter b_M_parameter 3 (some .int) :: lw_g) (rmD 1 0 0) (PcH D cA z ac E1 ad [.ref (ad 200), .int (x1), .int (x2)] S) (QN D cA z ac E1 ad (some (.int r)) S') 0 0 (zA z) := by
  refine Met.ofH (own := "TwoLevelParserModel") (by decide) rfl (Nat.le_of_ble_eq_true rfl) ?_
  intro p e s m args below meth c H ls C hW hS hl
  have hl : lv_has ls 3 [(0, .ref (ad 200)), (1, .int (x1)), (2, .int (x2))] := hl
  obtain ⟨⟨hx, hb, hml, hown, hts⟩, hK, hr, hlo⟩ := id C
  unfold f_M_parameter at h
  refine lv_aload_n hx hb d_M_parameter_0 rfl (lv_at hl 0 rfl) ?_
  refine lv_iconst (v := 0) hx hb d_M_parameter_1 (by decide) ?_
  obtain ⟨S1, eS1, h⟩ := lt_some h
  refine hp_i C hW hS 200 0 (hW.fx 200 rfl) rfl q_M (by decide) rfl rfl rfl (lkF C kf_M_77) eS1 d_M_parameter_2 (fun H locs hW hS => ?_)
  refine lv_aload_n hx hb d_M_parameter_5 rfl (lv_at hl 0 rfl) ?_
  refine lv_iload_n hx hb d_M_parameter_6 rfl (lv_at hl 1 rfl) ?_
  obtain ⟨r2, er2, h⟩ := ob_some h
  refine hx_V (i := 200) (As := [.int (x1)]) (rest := []) C hW hS (s_M_isDefinition x1 er2) km_M_264 kv_M_isDefinition ke_M_isDefinition kn_M kw_M_isDefinition kd_M_isDefinition (hW.fx 200 rfl) rfl q_M rfl ⟨by decide, by decide⟩ ⟨Nat.zero_le _, Nat.zero_le _⟩ rfl hl.1 rfl (Nat.le_of_ble_eq_true rfl) d_M_parameter_7 (fun H locs hW hS => ?_)
  refine lv_if_eq (tgt := 53) hx hb d_M_parameter_10 (by decide) (fun c10 => ?_) (fun c10 => ?_)
  · have h := ite_t c10 h
    refine lv_iconst (v := -1) hx hb d_M_parameter_53 (by decide) ?_
    obtain ⟨hr1, hr2⟩ := Prod.mk.inj (Option.some.inj h)
    subst hr1
    subst hr2
    exact he_i C hW hS d_M_parameter_54
  · have h := ite_f c10 h
    refine lv_iload_n hx hb d_M_parameter_13 rfl (lv_at hl 2 rfl) ?_
    refine lv_if_lt (tgt := 53) hx hb d_M_parameter_14 (by decide) (fun c14 => ?_) (fun c14 => ?_)
    · have h := ite_t c14 h
      refine lv_iconst (v := -1) hx hb d_M_parameter_53 (by decide) ?_
      obtain ⟨hr1, hr2⟩ := Prod.mk.inj (Option.some.inj h)
      subst hr1
      subst hr2
      exact he_i C hW hS d_M_parameter_54
    · have h := ite_f c14 h
      refine lv_iload_n hx hb d_M_parameter_17 rfl (lv_at hl 2 rfl) ?_
      refine lv_aload_n hx hb d_M_parameter_18 rfl (lv_at hl 0 rfl) ?_
      refine hg_r (j := 213) C hW 200 13 (hW.fx 200 rfl) rfl q_M (by decide) rfl (hW.fn (E := E1) (i := 200) (k := 13) rfl) (lkF C kf_M_24) d_M_parameter_19 ?_
      refine lv_aload_n hx hb d_M_parameter_22 rfl (lv_at hl 0 rfl) ?_
      refine lv_iload_n hx hb d_M_parameter_23 rfl (lv_at hl 1 rfl) ?_
      obtain ⟨r3, er3, h⟩ := ob_some h
      refine hx_V (i := 200) (As := [.int (x1)]) (rest := [.ref (ad 213), .int (x2)]) C hW hS (s_M_isDefinition x1 er3) km_M_264 kv_M_isDefinition ke_M_isDefinition kn_M kw_M_isDefinition kd_M_isDefinition (hW.fx 200 rfl) rfl q_M rfl ⟨by decide, by decide⟩ ⟨Nat.zero_le _, Nat.zero_le _⟩ rfl hl.1 rfl (Nat.le_of_ble_eq_true rfl) d_M_parameter_24 (fun H locs hW hS => ?_)
      refine lv_if_eq (tgt := 34) hx hb d_M_parameter_27 (by decide) (fun c27 => ?_) (fun c27 => ?_)
      · have h := ite_t c27 h
        refine lv_iconst (v := 0) hx hb d_M_parameter_34 (by decide) ?_
        exact w_M_parameter_35 C x1 x2 (0 : Int32) x2 h hW hS (lv_sub hl [0, 1, 2] rfl)
      · have h := ite_f c27 h
        refine lv_iload_n hx hb d_M_parameter_30 rfl (lv_at hl 1 rfl) ?_
        refine lv_goto (tgt := 35) hx hb d_M_parameter_31 (by decide) ?_
        exact w_M_parameter_35 C x1 x2 x1 x2 h hW hS (lv_sub hl [0, 1, 2] rfl)
end WK
def f_M_node (n : Nat) (x1 : Int32) (x2 : Int32) (S : HS) : Option (Int32 × HS) :=
  lt (sF S 200 0 (0 : Int32)) fun S1 =>
  (if x1 < 0 then
  some ((-1 : Int32), S1)
  else
  (if x1 < (gF S1 200 19) then
  (if x2 = (0 : Int32) then
  gd (inR x1 8192) <|
  some ((gF S1 220 x1.toNatClampNeg), S1)
  else
  (if x2 = (1 : Int32) then
  ob (f_M_within n x1 (1 : Int32) S1) fun r3 =>
  some (r3, S1)
  else
  (if x2 = (2 : Int32) then
  ob (f_M_within n x1 (0 : Int32) S1) fun r4 =>
  some (((1 : Int32) + r4), S1)
  else
  (if x2 = (3 : Int32) then
  gd (inR x1 8192) <|
  some ((gF S1 222 x1.toNatClampNeg), S1)
  else
  (if x2 = (4 : Int32) then
  gd (inR x1 8192) <|
  some ((gF S1 221 x1.toNatClampNeg), S1)
  else
  (if x2 = (5 : Int32) then
  gd (inR x1 8192) <|
  some ((gF S1 223 x1.toNatClampNeg), S1)
  else
  (if x2 = (6 : Int32) then
  gd (inR x1 8192) <|
  some ((gF S1 224 x1.toNatClampNeg), S1)
  else
  (if x2 = (7 : Int32) then
  gd (inR x1 8192) <|
  some ((gF S1 225 x1.toNatClampNeg), S1)
  else
  some ((-1 : Int32), S1)))))))))
  else
  some ((-1 : Int32), S1)))
section WK
variable {p : Program} {l : Launch} {e : Env} {s : State} {m : MethodId} {args : Array Value} {below : List Frame} {meth : Method} {c : Code} {D : va_G} {cA : Nat → ClassId} {z : Nat} {ac : Nat → Nat} {ad : Nat → Nat}
set_option maxHeartbeats 4000000 in
set_option maxRecDepth 100000 in
theorem s_M_node (n : Nat) (x1 : Int32) (x2 : Int32) {S : HS} {r : Int32} {S' : HS} (h : f_M_node n x1 x2 S = some (r, S')) : Met l y_M_node (.code y_M_node b_M_node 3 (some .int) :: lw_g) (rmD 1 0 0) (PcH D cA z ac E1 ad [.ref (ad 200), .int (x1), .int (x2)] S) (QN D cA z ac E1 ad (some (.int r)) S') 0 0 (zA z) := by
  refine Met.ofH (own := "TwoLevelParserModel") (by decide) rfl (Nat.le_of_ble_eq_true rfl) ?_
  intro p e s m args below meth c H ls C hW hS hl
  have hl : lv_has ls 3 [(0, .ref (ad 200)), (1, .int (x1)), (2, .int (x2))] := hl
  obtain ⟨⟨hx, hb, hml, hown, hts⟩, hK, hr, hlo⟩ := id C
  unfold f_M_node at h
  refine lv_aload_n hx hb d_M_node_0 rfl (lv_at hl 0 rfl) ?_
  refine lv_iconst (v := 0) hx hb d_M_node_1 (by decide) ?_
  obtain ⟨S1, eS1, h⟩ := lt_some h
  refine hp_i C hW hS 200 0 (hW.fx 200 rfl) rfl q_M (by decide) rfl rfl rfl (lkF C kf_M_77) eS1 d_M_node_2 (fun H locs hW hS => ?_)
  refine lv_iload_n hx hb d_M_node_5 rfl (lv_at hl 1 rfl) ?_
  refine lv_if_lt (tgt := 17) hx hb d_M_node_6 (by decide) (fun c6 => ?_) (fun c6 => ?_)
  · have h := ite_t c6 h
    refine lv_iconst (v := -1) hx hb d_M_node_17 (by decide) ?_
    obtain ⟨hr1, hr2⟩ := Prod.mk.inj (Option.some.inj h)
    subst hr1
    subst hr2
    exact he_i C hW hS d_M_node_18
  · have h := ite_f c6 h
    refine lv_iload_n hx hb d_M_node_9 rfl (lv_at hl 1 rfl) ?_
    refine lv_aload_n hx hb d_M_node_10 rfl (lv_at hl 0 rfl) ?_
    refine hg_i C hW 200 19 (hW.fx 200 rfl) rfl q_M (by decide) rfl (lkF C kf_M_207) d_M_node_11 ?_
    refine lv_icmp_lt (tgt := 19) hx hb d_M_node_14 (by decide) (fun c14 => ?_) (fun c14 => ?_)
    · have h := ite_t c14 h
      refine lv_iload_n hx hb d_M_node_19 rfl (lv_at hl 2 rfl) ?_
      by_cases c20_0 : x2 = (0 : Int32)
      · have h := ite_t c20_0 h
        refine lv_tableIn (off := 48) (tgt := 68) hx hb d_M_node_20 (by rw [c20_0]; decide) (by rw [c20_0]; decide) (by rw [c20_0]; rfl) (by decide) ?_
        refine lv_aload_n hx hb d_M_node_68 rfl (lv_at hl 0 rfl) ?_
        refine hg_r (j := 220) C hW 200 20 (hW.fx 200 rfl) rfl q_M (by decide) rfl (hW.fn (E := E1) (i := 200) (k := 20) rfl) (lkF C kf_M_43) d_M_node_69 ?_
        refine lv_iload_n hx hb d_M_node_72 rfl (lv_at hl 1 rfl) ?_
        obtain ⟨g2, h⟩ := gd_some h
        refine ha_i C hW 220 (hW.fx 220 rfl) rfl rfl g2 d_M_node_73 ?_
        obtain ⟨hr1, hr2⟩ := Prod.mk.inj (Option.some.inj h)
        subst hr1
        subst hr2
        exact he_i C hW hS d_M_node_74
      · have h := ite_f c20_0 h
        by_cases c20_1 : x2 = (1 : Int32)
        · have h := ite_t c20_1 h
          refine lv_tableIn (off := 55) (tgt := 75) hx hb d_M_node_20 (by rw [c20_1]; decide) (by rw [c20_1]; decide) (by rw [c20_1]; rfl) (by decide) ?_
          refine lv_aload_n hx hb d_M_node_75 rfl (lv_at hl 0 rfl) ?_
          refine lv_iload_n hx hb d_M_node_76 rfl (lv_at hl 1 rfl) ?_
          refine lv_iconst (v := 1) hx hb d_M_node_77 (by decide) ?_
          obtain ⟨r3, er3, h⟩ := ob_some h
          refine hx_V (i := 200) (As := [.int (x1), .int ((1 : Int32))]) (rest := []) C hW hS (s_M_within n x1 (1 : Int32) er3) km_M_267 kv_M_within ke_M_within kn_M kw_M_within kd_M_within (hW.fx 200 rfl) rfl q_M rfl ⟨by decide, by decide⟩ ⟨Nat.zero_le _, Nat.zero_le _⟩ rfl hl.1 rfl (Nat.le_of_ble_eq_true rfl) d_M_node_78 (fun H locs hW hS => ?_)
          obtain ⟨hr1, hr2⟩ := Prod.mk.inj (Option.some.inj h)
          subst hr1
          subst hr2
          exact he_i C hW hS d_M_node_81
        · have h := ite_f c20_1 h
          by_cases c20_2 : x2 = (2 : Int32)
          · have h := ite_t c20_2 h
            refine lv_tableIn (off := 62) (tgt := 82) hx hb d_M_node_20 (by rw [c20_2]; decide) (by rw [c20_2]; decide) (by rw [c20_2]; rfl) (by decide) ?_
            refine lv_iconst (v := 1) hx hb d_M_node_82 (by decide) ?_
            refine lv_aload_n hx hb d_M_node_83 rfl (lv_at hl 0 rfl) ?_
            refine lv_iload_n hx hb d_M_node_84 rfl (lv_at hl 1 rfl) ?_
            refine lv_iconst (v := 0) hx hb d_M_node_85 (by decide) ?_
            obtain ⟨r4, er4, h⟩ := ob_some h
            refine hx_V (i := 200) (As := [.int (x1), .int ((0 : Int32))]) (rest := [.int ((1 : Int32))]) C hW hS (s_M_within n x1 (0 : Int32) er4) km_M_267 kv_M_within ke_M_within kn_M kw_M_within kd_M_within (hW.fx 200 rfl) rfl q_M rfl ⟨by decide, by decide⟩ ⟨Nat.zero_le _, Nat.zero_le _⟩ rfl hl.1 rfl (Nat.le_of_ble_eq_true rfl) d_M_node_86 (fun H locs hW hS => ?_)
            refine lv_iadd hx hb d_M_node_89 ?_
            obtain ⟨hr1, hr2⟩ := Prod.mk.inj (Option.some.inj h)
            subst hr1
            subst hr2
            exact he_i C hW hS d_M_node_90
          · have h := ite_f c20_2 h
            by_cases c20_3 : x2 = (3 : Int32)
            · have h := ite_t c20_3 h
              refine lv_tableIn (off := 71) (tgt := 91) hx hb d_M_node_20 (by rw [c20_3]; decide) (by rw [c20_3]; decide) (by rw [c20_3]; rfl) (by decide) ?_
              refine lv_aload_n hx hb d_M_node_91 rfl (lv_at hl 0 rfl) ?_
              refine hg_r (j := 222) C hW 200 22 (hW.fx 200 rfl) rfl q_M (by decide) rfl (hW.fn (E := E1) (i := 200) (k := 22) rfl) (lkF C kf_M_49) d_M_node_92 ?_
              refine lv_iload_n hx hb d_M_node_95 rfl (lv_at hl 1 rfl) ?_
              obtain ⟨g5, h⟩ := gd_some h
              refine ha_i C hW 222 (hW.fx 222 rfl) rfl rfl g5 d_M_node_96 ?_
              obtain ⟨hr1, hr2⟩ := Prod.mk.inj (Option.some.inj h)
              subst hr1
              subst hr2
              exact he_i C hW hS d_M_node_97
            · have h := ite_f c20_3 h
              by_cases c20_4 : x2 = (4 : Int32)
              · have h := ite_t c20_4 h
                refine lv_tableIn (off := 78) (tgt := 98) hx hb d_M_node_20 (by rw [c20_4]; decide) (by rw [c20_4]; decide) (by rw [c20_4]; rfl) (by decide) ?_
                refine lv_aload_n hx hb d_M_node_98 rfl (lv_at hl 0 rfl) ?_
                refine hg_r (j := 221) C hW 200 21 (hW.fx 200 rfl) rfl q_M (by decide) rfl (hW.fn (E := E1) (i := 200) (k := 21) rfl) (lkF C kf_M_46) d_M_node_99 ?_
                refine lv_iload_n hx hb d_M_node_102 rfl (lv_at hl 1 rfl) ?_
                obtain ⟨g6, h⟩ := gd_some h
                refine ha_i C hW 221 (hW.fx 221 rfl) rfl rfl g6 d_M_node_103 ?_
                obtain ⟨hr1, hr2⟩ := Prod.mk.inj (Option.some.inj h)
                subst hr1
                subst hr2
                exact he_i C hW hS d_M_node_104
              · have h := ite_f c20_4 h
                by_cases c20_5 : x2 = (5 : Int32)
                · have h := ite_t c20_5 h
                  refine lv_tableIn (off := 85) (tgt := 105) hx hb d_M_node_20 (by rw [c20_5]; decide) (by rw [c20_5]; decide) (by rw [c20_5]; rfl) (by decide) ?_
                  refine lv_aload_n hx hb d_M_node_105 rfl (lv_at hl 0 rfl) ?_
                  refine hg_r (j := 223) C hW 200 23 (hW.fx 200 rfl) rfl q_M (by decide) rfl (hW.fn (E := E1) (i := 200) (k := 23) rfl) (lkF C kf_M_52) d_M_node_106 ?_
                  refine lv_iload_n hx hb d_M_node_109 rfl (lv_at hl 1 rfl) ?_
                  obtain ⟨g7, h⟩ := gd_some h
                  refine ha_i C hW 223 (hW.fx 223 rfl) rfl rfl g7 d_M_node_110 ?_
                  obtain ⟨hr1, hr2⟩ := Prod.mk.inj (Option.some.inj h)
                  subst hr1
                  subst hr2
                  exact he_i C hW hS d_M_node_111
                · have h := ite_f c20_5 h
                  by_cases c20_6 : x2 = (6 : Int32)
                  · have h := ite_t c20_6 h
                    refine lv_tableIn (off := 92) (tgt := 112) hx hb d_M_node_20 (by rw [c20_6]; decide) (by rw [c20_6]; decide) (by rw [c20_6]; rfl) (by decide) ?_
                    refine lv_aload_n hx hb d_M_node_112 rfl (lv_at hl 0 rfl) ?_
                    refine hg_r (j := 224) C hW 200 24 (hW.fx 200 rfl) rfl q_M (by decide) rfl (hW.fn (E := E1) (i := 200) (k := 24) rfl) (lkF C kf_M_55) d_M_node_113 ?_
                    refine lv_iload_n hx hb d_M_node_116 rfl (lv_at hl 1 rfl) ?_
                    obtain ⟨g8, h⟩ := gd_some h
                    refine ha_i C hW 224 (hW.fx 224 rfl) rfl rfl g8 d_M_node_117 ?_
                    obtain ⟨hr1, hr2⟩ := Prod.mk.inj (Option.some.inj h)
                    subst hr1
                    subst hr2
                    exact he_i C hW hS d_M_node_118
                  · have h := ite_f c20_6 h
                    by_cases c20_7 : x2 = (7 : Int32)
                    · have h := ite_t c20_7 h
                      refine lv_tableIn (off := 99) (tgt := 119) hx hb d_M_node_20 (by rw [c20_7]; decide) (by rw [c20_7]; decide) (by rw [c20_7]; rfl) (by decide) ?_
                      refine lv_aload_n hx hb d_M_node_119 rfl (lv_at hl 0 rfl) ?_
                      refine hg_r (j := 225) C hW 200 25 (hW.fx 200 rfl) rfl q_M (by decide) rfl (hW.fn (E := E1) (i := 200) (k := 25) rfl) (lkF C kf_M_58) d_M_node_120 ?_
                      refine lv_iload_n hx hb d_M_node_123 rfl (lv_at hl 1 rfl) ?_
                      obtain ⟨g9, h⟩ := gd_some h
                      refine ha_i C hW 225 (hW.fx 225 rfl) rfl rfl g9 d_M_node_124 ?_
                      obtain ⟨hr1, hr2⟩ := Prod.mk.inj (Option.some.inj h)
                      subst hr1
                      subst hr2
                      exact he_i C hW hS d_M_node_125
                    · have h := ite_f c20_7 h
                      refine lv_tableOut (tgt := 126) hx hb d_M_node_20 (by have := lv_neT c20_0 (show ((0 : Int32)).toInt = 0 by decide); have := lv_neT c20_1 (show ((1 : Int32)).toInt = 1 by decide); have := lv_neT c20_2 (show ((2 : Int32)).toInt = 2 by decide); have := lv_neT c20_3 (show ((3 : Int32)).toInt = 3 by decide); have := lv_neT c20_4 (show ((4 : Int32)).toInt = 4 by decide); have := lv_neT c20_5 (show ((5 : Int32)).toInt = 5 by decide); have := lv_neT c20_6 (show ((6 : Int32)).toInt = 6 by decide); have := lv_neT c20_7 (show ((7 : Int32)).toInt = 7 by decide); omega) (by decide) ?_
                      refine lv_iconst (v := -1) hx hb d_M_node_126 (by decide) ?_
                      obtain ⟨hr1, hr2⟩ := Prod.mk.inj (Option.some.inj h)
                      subst hr1
                      subst hr2
                      exact he_i C hW hS d_M_node_127
    · have h := ite_f c14 h
      refine lv_iconst (v := -1) hx hb d_M_node_17 (by decide) ?_
      obtain ⟨hr1, hr2⟩ := Prod.mk.inj (Option.some.inj h)
      subst hr1
      subst hr2
      exact he_i C hW hS d_M_node_18
end WK
def f_M_expect_b96 (x1 : Int32) (x3 : Int32) (S : HS) : Option HS :=
  ob (f_M_push x3 x1 S) fun S10 =>
  ob (f_M_push x3 x1 S10) fun S11 =>
  ob (f_M_push (1 : Int32) x1 S11) fun S12 =>
  some S12
def f_M_expect_b117 (x1 : Int32) (x3 : Int32) (S : HS) : Option HS :=
  ob (f_M_push (8 : Int32) x1 S) fun S13 =>
  ob (f_M_push x3 x1 S13) fun S14 =>
  ob (f_M_push (5 : Int32) x1 S14) fun S15 =>
  some S15
def f_M_expect_b139 (x1 : Int32) (x3 : Int32) (S : HS) : Option HS :=
  ob (f_M_push (3 : Int32) x1 S) fun S16 =>
  ob (f_M_push (8 : Int32) x1 S16) fun S17 =>
  ob (f_M_push x3 x1 S17) fun S18 =>
  ob (f_M_push (6 : Int32) x1 S18) fun S19 =>
  ob (f_M_push (5 : Int32) x1 S19) fun S20 =>
  ob (f_M_push (4 : Int32) x1 S20) fun S21 =>
  ob (f_M_push x3 x1 S21) fun S22 =>
  ob (f_M_push (1 : Int32) x1 S22) fun S23 =>
  some S23
def f_M_expect_b192 (x1 : Int32) (S : HS) : Option HS :=
  ob (f_M_push (7 : Int32) x1 S) fun S26 =>
  ob (f_M_push (9 : Int32) x1 S26) fun S27 =>
  some S27
def f_M_expect_b209 (x1 : Int32) (S : HS) : Option HS :=
  ob (f_M_push (2 : Int32) x1 S) fun S28 =>
  some S28
def f_M_expect_b255 (x1 : Int32) (S : HS) : Option HS :=
  ob (f_M_push (1 : Int32) x1 S) fun S24 =>
  ob (f_M_push (1 : Int32) x1 S24) fun S25 =>
  some S25
def f_M_expect_b18 (x1 : Int32) (x2 : Int32) (y0 : Int32) (S : HS) : Option HS :=
  lt y0 fun v3 =>
  ob (f_M_push (3 : Int32) x1 S) fun S4 =>
  (if x2 = (10 : Int32) then
  f_M_expect_b96 x1 v3 S4
  else
  (if x2 = (11 : Int32) then
  f_M_expect_b117 x1 v3 S4
  else
  (if x2 = (12 : Int32) then
  f_M_expect_b139 x1 v3 S4
  else
  (if x2 = (13 : Int32) then
  f_M_expect_b255 x1 S4
  else
  (if x2 = (14 : Int32) then
  f_M_expect_b192 x1 S4
  else
  (if x2 = (15 : Int32) then
  f_M_expect_b192 x1 S4
  else
  (if x2 = (16 : Int32) then
  f_M_expect_b209 x1 S4
  else
  (if x2 = (17 : Int32) then
  f_M_expect_b209 x1 S4
  else
  (if x2 = (18 : Int32) then
  ob (f_M_push (8 : Int32) x1 S4) fun S5 =>
  ob (f_M_push (2 : Int32) x1 S5) fun S6 =>
  ob (f_M_push (5 : Int32) x1 S6) fun S7 =>
  ob (f_M_push (1 : Int32) x1 S7) fun S8 =>
  some S8
  else
  (if x2 = (19 : Int32) then
  ob (f_M_push (1 : Int32) x1 S4) fun S9 =>
  some S9
  else
  (if x2 = (20 : Int32) then
  f_M_expect_b96 x1 v3 S4
  else
  (if x2 = (21 : Int32) then
  f_M_expect_b117 x1 v3 S4
  else
  (if x2 = (22 : Int32) then
  f_M_expect_b139 x1 v3 S4
  else
  (if x2 = (23 : Int32) then
  f_M_expect_b192 x1 S4
  else
  f_M_expect_b255 x1 S4))))))))))))))
def f_M_expect (x1 : Int32) (S : HS) : Option HS :=
  gd (inR x1 8192) <|
  lt (gF S 220 x1.toNatClampNeg) fun v2 =>
  (if (18 : Int32) ≤ v2 then
  f_M_expect_b18 x1 v2 (2 : Int32) S
  else
  f_M_expect_b18 x1 v2 (1 : Int32) S)
section WK
variable {p : Program} {l : Launch} {e : Env} {s : State} {m : MethodId} {args : Array Value} {below : List Frame} {meth : Method} {c : Code} {D : va_G} {cA : Nat → ClassId} {z : Nat} {ac : Nat → Nat} {ad : Nat → Nat}
set_option maxHeartbeats 4000000 in
set_option maxRecDepth 100000 in
theorem w_M_expect_96 (C : CB p s m args c meth b_M_expect "TwoLevelParserModel" 4 none D cA z ac) {S' : HS} (x1 : Int32) (x3 : Int32) {S : HS} {H : Heap} {locs : List Loc} {ls : Array Slot} (h : f_M_expect_b96 x1 x3 S = some S') (hW : HW D cA z ac E1 ad S H) (hS : va_S (zA z) s.heap H locs) (hl : lv_has ls 4 [(0, .ref (ad 200)), (1, .int (x1)), (3, .int (x3))]) : GW p l e 1 s m args below meth c D cA z ac E1 ad none S' H locs (F0 m 96 ls []) := by
  obtain ⟨⟨hx, hb, hml, hown, hts⟩, hK, hr, hlo⟩ := id C
  unfold f_M_expect_b96 at h
  refine lv_aload_n hx hb d_M_expect_96 rfl (lv_at hl 0 rfl) ?_
  refine lv_iload_n hx hb d_M_expect_97 rfl (lv_at hl 2 rfl) ?_
  refine lv_iload_n hx hb d_M_expect_98 rfl (lv_at hl 1 rfl) ?_
  obtain ⟨S10, eS10, h⟩ := ob_some h
  refine hx_V (i := 200) (As := [.int (x3), .int (x1)]) (rest := []) C hW hS (s_M_push x3 x1 eS10) km_M_217 kv_M_push ke_M_push kn_M kw_M_push kd_M_push (hW.fx 200 rfl) rfl q_M rfl ⟨by decide, by decide⟩ ⟨Nat.zero_le _, Nat.zero_le _⟩ rfl hl.1 rfl (Nat.le_of_ble_eq_true rfl) d_M_expect_99 (fun H locs hW hS => ?_)
  refine lv_aload_n hx hb d_M_expect_102 rfl (lv_at hl 0 rfl) ?_
  refine lv_iload_n hx hb d_M_expect_103 rfl (lv_at hl 2 rfl) ?_
  refine lv_iload_n hx hb d_M_expect_104 rfl (lv_at hl 1 rfl) ?_
  obtain ⟨S11, eS11, h⟩ := ob_some h
  refine hx_V (i := 200) (As := [.int (x3), .int (x1)]) (rest := []) C hW hS (s_M_push x3 x1 eS11) km_M_217 kv_M_push ke_M_push kn_M kw_M_push kd_M_push (hW.fx 200 rfl) rfl q_M rfl ⟨by decide, by decide⟩ ⟨Nat.zero_le _, Nat.zero_le _⟩ rfl hl.1 rfl (Nat.le_of_ble_eq_true rfl) d_M_expect_105 (fun H locs hW hS => ?_)
  refine lv_aload_n hx hb d_M_expect_108 rfl (lv_at hl 0 rfl) ?_
  refine lv_iconst (v := 1) hx hb d_M_expect_109 (by decide) ?_
  refine lv_iload_n hx hb d_M_expect_110 rfl (lv_at hl 1 rfl) ?_
  obtain ⟨S12, eS12, h⟩ := ob_some h
  refine hx_V (i := 200) (As := [.int ((1 : Int32)), .int (x1)]) (rest := []) C hW hS (s_M_push (1 : Int32) x1 eS12) km_M_217 kv_M_push ke_M_push kn_M kw_M_push kd_M_push (hW.fx 200 rfl) rfl q_M rfl ⟨by decide, by decide⟩ ⟨Nat.zero_le _, Nat.zero_le _⟩ rfl hl.1 rfl (Nat.le_of_ble_eq_true rfl) d_M_expect_111 (fun H locs hW hS => ?_)
  refine lv_goto (tgt := 267) hx hb d_M_expect_114 (by decide) ?_
  have h := Option.some.inj h
  subst h
  exact he_v C hW hS d_M_expect_267
set_option maxHeartbeats 4000000 in
set_option maxRecDepth 100000 in
theorem w_M_expect_117 (C : CB p s m args c meth b_M_expect "TwoLevelParserModel" 4 none D cA z ac) {S' : HS} (x1 : Int32) (x3 : Int32) {S : HS} {H : Heap} {locs : List Loc} {ls : Array Slot} (h : f_M_expect_b117 x1 x3 S = some S') (hW : HW D cA z ac E1 ad S H) (hS : va_S (zA z) s.heap H locs) (hl : lv_has ls 4 [(0, .ref (ad 200)), (1, .int (x1)), (3, .int (x3))]) : GW p l e 1 s m args below meth c D cA z ac E1 ad none S' H locs (F0 m 117 ls []) := by
  obtain ⟨⟨hx, hb, hml, hown, hts⟩, hK, hr, hlo⟩ := id C
  unfold f_M_expect_b117 at h
  refine lv_aload_n hx hb d_M_expect_117 rfl (lv_at hl 0 rfl) ?_
  refine lv_bipush (v := 8) hx hb d_M_expect_118 (by decide) ?_
  refine lv_iload_n hx hb d_M_expect_120 rfl (lv_at hl 1 rfl) ?_
  obtain ⟨S13, eS13, h⟩ := ob_some h
  refine hx_V (i := 200) (As := [.int ((8 : Int32)), .int (x1)]) (rest := []) C hW hS (s_M_push (8 : Int32) x1 eS13) km_M_217 kv_M_push ke_M_push kn_M kw_M_push kd_M_push (hW.fx 200 rfl) rfl q_M rfl ⟨by decide, by decide⟩ ⟨Nat.zero_le _, Nat.zero_le _⟩ rfl hl.1 rfl (Nat.le_of_ble_eq_true rfl) d_M_expect_121 (fun H locs hW hS => ?_)
  refine lv_aload_n hx hb d_M_expect_124 rfl (lv_at hl 0 rfl) ?_
  refine lv_iload_n hx hb d_M_expect_125 rfl (lv_at hl 2 rfl) ?_
  refine lv_iload_n hx hb d_M_expect_126 rfl (lv_at hl 1 rfl) ?_
  obtain ⟨S14, eS14, h⟩ := ob_some h
  refine hx_V (i := 200) (As := [.int (x3), .int (x1)]) (rest := []) C hW hS (s_M_push x3 x1 eS14) km_M_217 kv_M_push ke_M_push kn_M kw_M_push kd_M_push (hW.fx 200 rfl) rfl q_M rfl ⟨by decide, by decide⟩ ⟨Nat.zero_le _, Nat.zero_le _⟩ rfl hl.1 rfl (Nat.le_of_ble_eq_true rfl) d_M_expect_127 (fun H locs hW hS => ?_)
  refine lv_aload_n hx hb d_M_expect_130 rfl (lv_at hl 0 rfl) ?_
  refine lv_iconst (v := 5) hx hb d_M_expect_131 (by decide) ?_
  refine lv_iload_n hx hb d_M_expect_132 rfl (lv_at hl 1 rfl) ?_
  obtain ⟨S15, eS15, h⟩ := ob_some h
  refine hx_V (i := 200) (As := [.int ((5 : Int32)), .int (x1)]) (rest := []) C hW hS (s_M_push (5 : Int32) x1 eS15) km_M_217 kv_M_push ke_M_push kn_M kw_M_push kd_M_push (hW.fx 200 rfl) rfl q_M rfl ⟨by decide, by decide⟩ ⟨Nat.zero_le _, Nat.zero_le _⟩ rfl hl.1 rfl (Nat.le_of_ble_eq_true rfl) d_M_expect_133 (fun H locs hW hS => ?_)
  refine lv_goto (tgt := 267) hx hb d_M_expect_136 (by decide) ?_
  have h := Option.some.inj h
  subst h
  exact he_v C hW hS d_M_expect_267
set_option maxHeartbeats 4000000 in
set_option maxRecDepth 100000 in
theorem w_M_expect_139 (C : CB p s m args c meth b_M_expect "TwoLevelParserModel" 4 none D cA z ac) {S' : HS} (x1 : Int32) (x3 : Int32) {S : HS} {H : Heap} {locs : List Loc} {ls : Array Slot} (h : f_M_expect_b139 x1 x3 S = some S') (hW : HW D cA z ac E1 ad S H) (hS : va_S (zA z) s.heap H locs) (hl : lv_has ls 4 [(0, .ref (ad 200)), (1, .int (x1)), (3, .int (x3))]) : GW p l e 1 s m args below meth c D cA z ac E1 ad none S' H locs (F0 m 139 ls []) := by
  obtain ⟨⟨hx, hb, hml, hown, hts⟩, hK, hr, hlo⟩ := id C
  unfold f_M_expect_b139 at h
  refine lv_aload_n hx hb d_M_expect_139 rfl (lv_at hl 0 rfl) ?_
  refine lv_iconst (v := 3) hx hb d_M_expect_140 (by decide) ?_
  refine lv_iload_n hx hb d_M_expect_141 rfl (lv_at hl 1 rfl) ?_
  obtain ⟨S16, eS16, h⟩ := ob_some h
  refine hx_V (i := 200) (As := [.int ((3 : Int32)), .int (x1)]) (rest := []) C hW hS (s_M_push (3 : Int32) x1 eS16) km_M_217 kv_M_push ke_M_push kn_M kw_M_push kd_M_push (hW.fx 200 rfl) rfl q_M rfl ⟨by decide, by decide⟩ ⟨Nat.zero_le _, Nat.zero_le _⟩ rfl hl.1 rfl (Nat.le_of_ble_eq_true rfl) d_M_expect_142 (fun H locs hW hS => ?_)
  refine lv_aload_n hx hb d_M_expect_145 rfl (lv_at hl 0 rfl) ?_
  refine lv_bipush (v := 8) hx hb d_M_expect_146 (by decide) ?_
  refine lv_iload_n hx hb d_M_expect_148 rfl (lv_at hl 1 rfl) ?_
  obtain ⟨S17, eS17, h⟩ := ob_some h
  refine hx_V (i := 200) (As := [.int ((8 : Int32)), .int (x1)]) (rest := []) C hW hS (s_M_push (8 : Int32) x1 eS17) km_M_217 kv_M_push ke_M_push kn_M kw_M_push kd_M_push (hW.fx 200 rfl) rfl q_M rfl ⟨by decide, by decide⟩ ⟨Nat.zero_le _, Nat.zero_le _⟩ rfl hl.1 rfl (Nat.le_of_ble_eq_true rfl) d_M_expect_149 (fun H locs hW hS => ?_)
  refine lv_aload_n hx hb d_M_expect_152 rfl (lv_at hl 0 rfl) ?_
  refine lv_iload_n hx hb d_M_expect_153 rfl (lv_at hl 2 rfl) ?_
  refine lv_iload_n hx hb d_M_expect_154 rfl (lv_at hl 1 rfl) ?_
  obtain ⟨S18, eS18, h⟩ := ob_some h
  refine hx_V (i := 200) (As := [.int (x3), .int (x1)]) (rest := []) C hW hS (s_M_push x3 x1 eS18) km_M_217 kv_M_push ke_M_push kn_M kw_M_push kd_M_push (hW.fx 200 rfl) rfl q_M rfl ⟨by decide, by decide⟩ ⟨Nat.zero_le _, Nat.zero_le _⟩ rfl hl.1 rfl (Nat.le_of_ble_eq_true rfl) d_M_expect_155 (fun H locs hW hS => ?_)
  refine lv_aload_n hx hb d_M_expect_158 rfl (lv_at hl 0 rfl) ?_
  refine lv_bipush (v := 6) hx hb d_M_expect_159 (by decide) ?_
  refine lv_iload_n hx hb d_M_expect_161 rfl (lv_at hl 1 rfl) ?_
  obtain ⟨S19, eS19, h⟩ := ob_some h
  refine hx_V (i := 200) (As := [.int ((6 : Int32)), .int (x1)]) (rest := []) C hW hS (s_M_push (6 : Int32) x1 eS19) km_M_217 kv_M_push ke_M_push kn_M kw_M_push kd_M_push (hW.fx 200 rfl) rfl q_M rfl ⟨by decide, by decide⟩ ⟨Nat.zero_le _, Nat.zero_le _⟩ rfl hl.1 rfl (Nat.le_of_ble_eq_true rfl) d_M_expect_162 (fun H locs hW hS => ?_)
  refine lv_aload_n hx hb d_M_expect_165 rfl (lv_at hl 0 rfl) ?_
  refine lv_iconst (v := 5) hx hb d_M_expect_166 (by decide) ?_
  refine lv_iload_n hx hb d_M_expect_167 rfl (lv_at hl 1 rfl) ?_
  obtain ⟨S20, eS20, h⟩ := ob_some h
  refine hx_V (i := 200) (As := [.int ((5 : Int32)), .int (x1)]) (rest := []) C hW hS (s_M_push (5 : Int32) x1 eS20) km_M_217 kv_M_push ke_M_push kn_M kw_M_push kd_M_push (hW.fx 200 rfl) rfl q_M rfl ⟨by decide, by decide⟩ ⟨Nat.zero_le _, Nat.zero_le _⟩ rfl hl.1 rfl (Nat.le_of_ble_eq_true rfl) d_M_expect_168 (fun H locs hW hS => ?_)
  refine lv_aload_n hx hb d_M_expect_171 rfl (lv_at hl 0 rfl) ?_
  refine lv_iconst (v := 4) hx hb d_M_expect_172 (by decide) ?_
  refine lv_iload_n hx hb d_M_expect_173 rfl (lv_at hl 1 rfl) ?_
  obtain ⟨S21, eS21, h⟩ := ob_some h
  refine hx_V (i := 200) (As := [.int ((4 : Int32)), .int (x1)]) (rest := []) C hW hS (s_M_push (4 : Int32) x1 eS21) km_M_217 kv_M_push ke_M_push kn_M kw_M_push kd_M_push (hW.fx 200 rfl) rfl q_M rfl ⟨by decide, by decide⟩ ⟨Nat.zero_le _, Nat.zero_le _⟩ rfl hl.1 rfl (Nat.le_of_ble_eq_true rfl) d_M_expect_174 (fun H locs hW hS => ?_)
  refine lv_aload_n hx hb d_M_expect_177 rfl (lv_at hl 0 rfl) ?_
  refine lv_iload_n hx hb d_M_expect_178 rfl (lv_at hl 2 rfl) ?_
  refine lv_iload_n hx hb d_M_expect_179 rfl (lv_at hl 1 rfl) ?_
  obtain ⟨S22, eS22, h⟩ := ob_some h
  refine hx_V (i := 200) (As := [.int (x3), .int (x1)]) (rest := []) C hW hS (s_M_push x3 x1 eS22) km_M_217 kv_M_push ke_M_push kn_M kw_M_push kd_M_push (hW.fx 200 rfl) rfl q_M rfl ⟨by decide, by decide⟩ ⟨Nat.zero_le _, Nat.zero_le _⟩ rfl hl.1 rfl (Nat.le_of_ble_eq_true rfl) d_M_expect_180 (fun H locs hW hS => ?_)
  refine lv_aload_n hx hb d_M_expect_183 rfl (lv_at hl 0 rfl) ?_
  refine lv_iconst (v := 1) hx hb d_M_expect_184 (by decide) ?_
  refine lv_iload_n hx hb d_M_expect_185 rfl (lv_at hl 1 rfl) ?_
  obtain ⟨S23, eS23, h⟩ := ob_some h
  refine hx_V (i := 200) (As := [.int ((1 : Int32)), .int (x1)]) (rest := []) C hW hS (s_M_push (1 : Int32) x1 eS23) km_M_217 kv_M_push ke_M_push kn_M kw_M_push kd_M_push (hW.fx 200 rfl) rfl q_M rfl ⟨by decide, by decide⟩ ⟨Nat.zero_le _, Nat.zero_le _⟩ rfl hl.1 rfl (Nat.le_of_ble_eq_true rfl) d_M_expect_186 (fun H locs hW hS => ?_)
  refine lv_goto (tgt := 267) hx hb d_M_expect_189 (by decide) ?_
  have h := Option.some.inj h
  subst h
  exact he_v C hW hS d_M_expect_267
set_option maxHeartbeats 4000000 in
set_option maxRecDepth 100000 in
theorem w_M_expect_192 (C : CB p s m args c meth b_M_expect "TwoLevelParserModel" 4 none D cA z ac) {S' : HS} (x1 : Int32) {S : HS} {H : Heap} {locs : List Loc} {ls : Array Slot} (h : f_M_expect_b192 x1 S = some S') (hW : HW D cA z ac E1 ad S H) (hS : va_S (zA z) s.heap H locs) (hl : lv_has ls 4 [(0, .ref (ad 200)), (1, .int (x1))]) : GW p l e 1 s m args below meth c D cA z ac E1 ad none S' H locs (F0 m 192 ls []) := by
  obtain ⟨⟨hx, hb, hml, hown, hts⟩, hK, hr, hlo⟩ := id C
  unfold f_M_expect_b192 at h
  refine lv_aload_n hx hb d_M_expect_192 rfl (lv_at hl 0 rfl) ?_
  refine lv_bipush (v := 7) hx hb d_M_expect_193 (by decide) ?_
  refine lv_iload_n hx hb d_M_expect_195 rfl (lv_at hl 1 rfl) ?_
  obtain ⟨S26, eS26, h⟩ := ob_some h
  refine hx_V (i := 200) (As := [.int ((7 : Int32)), .int (x1)]) (rest := []) C hW hS (s_M_push (7 : Int32) x1 eS26) km_M_217 kv_M_push ke_M_push kn_M kw_M_push kd_M_push (hW.fx 200 rfl) rfl q_M rfl ⟨by decide, by decide⟩ ⟨Nat.zero_le _, Nat.zero_le _⟩ rfl hl.1 rfl (Nat.le_of_ble_eq_true rfl) d_M_expect_196 (fun H locs hW hS => ?_)
  refine lv_aload_n hx hb d_M_expect_199 rfl (lv_at hl 0 rfl) ?_
  refine lv_bipush (v := 9) hx hb d_M_expect_200 (by decide) ?_
  refine lv_iload_n hx hb d_M_expect_202 rfl (lv_at hl 1 rfl) ?_
  obtain ⟨S27, eS27, h⟩ := ob_some h
  refine hx_V (i := 200) (As := [.int ((9 : Int32)), .int (x1)]) (rest := []) C hW hS (s_M_push (9 : Int32) x1 eS27) km_M_217 kv_M_push ke_M_push kn_M kw_M_push kd_M_push (hW.fx 200 rfl) rfl q_M rfl ⟨by decide, by decide⟩ ⟨Nat.zero_le _, Nat.zero_le _⟩ rfl hl.1 rfl (Nat.le_of_ble_eq_true rfl) d_M_expect_203 (fun H locs hW hS => ?_)
  refine lv_goto (tgt := 267) hx hb d_M_expect_206 (by decide) ?_
  have h := Option.some.inj h
  subst h
  exact he_v C hW hS d_M_expect_267
set_option maxHeartbeats 4000000 in
set_option maxRecDepth 100000 in
theorem w_M_expect_209 (C : CB p s m args c meth b_M_expect "TwoLevelParserModel" 4 none D cA z ac) {S' : HS} (x1 : Int32) {S : HS} {H : Heap} {locs : List Loc} {ls : Array Slot} (h : f_M_expect_b209 x1 S = some S') (hW : HW D cA z ac E1 ad S H) (hS : va_S (zA z) s.heap H locs) (hl : lv_has ls 4 [(0, .ref (ad 200)), (1, .int (x1))]) : GW p l e 1 s m args below meth c D cA z ac E1 ad none S' H locs (F0 m 209 ls []) := by
  obtain ⟨⟨hx, hb, hml, hown, hts⟩, hK, hr, hlo⟩ := id C
  unfold f_M_expect_b209 at h
  refine lv_aload_n hx hb d_M_expect_209 rfl (lv_at hl 0 rfl) ?_
  refine lv_iconst (v := 2) hx hb d_M_expect_210 (by decide) ?_
  refine lv_iload_n hx hb d_M_expect_211 rfl (lv_at hl 1 rfl) ?_
  obtain ⟨S28, eS28, h⟩ := ob_some h
  refine hx_V (i := 200) (As := [.int ((2 : Int32)), .int (x1)]) (rest := []) C hW hS (s_M_push (2 : Int32) x1 eS28) km_M_217 kv_M_push ke_M_push kn_M kw_M_push kd_M_push (hW.fx 200 rfl) rfl q_M rfl ⟨by decide, by decide⟩ ⟨Nat.zero_le _, Nat.zero_le _⟩ rfl hl.1 rfl (Nat.le_of_ble_eq_true rfl) d_M_expect_212 (fun H locs hW hS => ?_)
  refine lv_goto (tgt := 267) hx hb d_M_expect_215 (by decide) ?_
  have h := Option.some.inj h
  subst h
  exact he_v C hW hS d_M_expect_267
set_option maxHeartbeats 4000000 in
set_option maxRecDepth 100000 in
theorem w_M_expect_255 (C : CB p s m args c meth b_M_expect "TwoLevelParserModel" 4 none D cA z ac) {S' : HS} (x1 : Int32) {S : HS} {H : Heap} {locs : List Loc} {ls : Array Slot} (h : f_M_expect_b255 x1 S = some S') (hW : HW D cA z ac E1 ad S H) (hS : va_S (zA z) s.heap H locs) (hl : lv_has ls 4 [(0, .ref (ad 200)), (1, .int (x1))]) : GW p l e 1 s m args below meth c D cA z ac E1 ad none S' H locs (F0 m 255 ls []) := by
  obtain ⟨⟨hx, hb, hml, hown, hts⟩, hK, hr, hlo⟩ := id C
  unfold f_M_expect_b255 at h
  refine lv_aload_n hx hb d_M_expect_255 rfl (lv_at hl 0 rfl) ?_
  refine lv_iconst (v := 1) hx hb d_M_expect_256 (by decide) ?_
  refine lv_iload_n hx hb d_M_expect_257 rfl (lv_at hl 1 rfl) ?_
  obtain ⟨S24, eS24, h⟩ := ob_some h
  refine hx_V (i := 200) (As := [.int ((1 : Int32)), .int (x1)]) (rest := []) C hW hS (s_M_push (1 : Int32) x1 eS24) km_M_217 kv_M_push ke_M_push kn_M kw_M_push kd_M_push (hW.fx 200 rfl) rfl q_M rfl ⟨by decide, by decide⟩ ⟨Nat.zero_le _, Nat.zero_le _⟩ rfl hl.1 rfl (Nat.le_of_ble_eq_true rfl) d_M_expect_258 (fun H locs hW hS => ?_)
  refine lv_aload_n hx hb d_M_expect_261 rfl (lv_at hl 0 rfl) ?_
  refine lv_iconst (v := 1) hx hb d_M_expect_262 (by decide) ?_
  refine lv_iload_n hx hb d_M_expect_263 rfl (lv_at hl 1 rfl) ?_
  obtain ⟨S25, eS25, h⟩ := ob_some h
  refine hx_V (i := 200) (As := [.int ((1 : Int32)), .int (x1)]) (rest := []) C hW hS (s_M_push (1 : Int32) x1 eS25) km_M_217 kv_M_push ke_M_push kn_M kw_M_push kd_M_push (hW.fx 200 rfl) rfl q_M rfl ⟨by decide, by decide⟩ ⟨Nat.zero_le _, Nat.zero_le _⟩ rfl hl.1 rfl (Nat.le_of_ble_eq_true rfl) d_M_expect_264 (fun H locs hW hS => ?_)
  have h := Option.some.inj h
  subst h
  exact he_v C hW hS d_M_expect_267
set_option maxHeartbeats 4000000 in
set_option maxRecDepth 100000 in
theorem w_M_expect_18 (C : CB p s m args c meth b_M_expect "TwoLevelParserModel" 4 none D cA z ac) {S' : HS} (x1 : Int32) (x2 : Int32) (y0 : Int32) {S : HS} {H : Heap} {locs : List Loc} {ls : Array Slot} (h : f_M_expect_b18 x1 x2 y0 S = some S') (hW : HW D cA z ac E1 ad S H) (hS : va_S (zA z) s.heap H locs) (hl : lv_has ls 4 [(0, .ref (ad 200)), (1, .int (x1)), (2, .int (x2))]) : GW p l e 1 s m args below meth c D cA z ac E1 ad none S' H locs (F0 m 18 ls [.int (y0)]) := by
  obtain ⟨⟨hx, hb, hml, hown, hts⟩, hK, hr, hlo⟩ := id C
  unfold f_M_expect_b18 at h
  obtain ⟨v3, ev3, h⟩ := lt_some h
  refine lt_i_n (lv' := [(3, .int (v3)), (0, .ref (ad 200)), (1, .int (x1)), (2, .int (x2))]) C d_M_expect_18 rfl hl (by decide) ev3 rfl (fun ls hl => ?_)
  refine lv_aload_n hx hb d_M_expect_19 rfl (lv_at hl 1 rfl) ?_
  refine lv_iconst (v := 3) hx hb d_M_expect_20 (by decide) ?_
  refine lv_iload_n hx hb d_M_expect_21 rfl (lv_at hl 2 rfl) ?_
  obtain ⟨S4, eS4, h⟩ := ob_some h
  refine hx_V (i := 200) (As := [.int ((3 : Int32)), .int (x1)]) (rest := []) C hW hS (s_M_push (3 : Int32) x1 eS4) km_M_217 kv_M_push ke_M_push kn_M kw_M_push kd_M_push (hW.fx 200 rfl) rfl q_M rfl ⟨by decide, by decide⟩ ⟨Nat.zero_le _, Nat.zero_le _⟩ rfl hl.1 rfl (Nat.le_of_ble_eq_true rfl) d_M_expect_22 (fun H locs hW hS => ?_)
  refine lv_iload_n hx hb d_M_expect_25 rfl (lv_at hl 3 rfl) ?_
  by_cases c26_10 : x2 = (10 : Int32)
  · have h := ite_t c26_10 h
    refine lv_tableIn (off := 70) (tgt := 96) hx hb d_M_expect_26 (by rw [c26_10]; decide) (by rw [c26_10]; decide) (by rw [c26_10]; rfl) (by decide) ?_
    exact w_M_expect_96 C x1 v3 h hW hS (lv_sub hl [1, 2, 0] rfl)
  · have h := ite_f c26_10 h
    by_cases c26_11 : x2 = (11 : Int32)
    · have h := ite_t c26_11 h
      refine lv_tableIn (off := 91) (tgt := 117) hx hb d_M_expect_26 (by rw [c26_11]; decide) (by rw [c26_11]; decide) (by rw [c26_11]; rfl) (by decide) ?_
      exact w_M_expect_117 C x1 v3 h hW hS (lv_sub hl [1, 2, 0] rfl)
    · have h := ite_f c26_11 h
      by_cases c26_12 : x2 = (12 : Int32)
      · have h := ite_t c26_12 h
        refine lv_tableIn (off := 113) (tgt := 139) hx hb d_M_expect_26 (by rw [c26_12]; decide) (by rw [c26_12]; decide) (by rw [c26_12]; rfl) (by decide) ?_
        exact w_M_expect_139 C x1 v3 h hW hS (lv_sub hl [1, 2, 0] rfl)
      · have h := ite_f c26_12 h
        by_cases c26_13 : x2 = (13 : Int32)
        · have h := ite_t c26_13 h
          refine lv_tableIn (off := 229) (tgt := 255) hx hb d_M_expect_26 (by rw [c26_13]; decide) (by rw [c26_13]; decide) (by rw [c26_13]; rfl) (by decide) ?_
          exact w_M_expect_255 C x1 h hW hS (lv_sub hl [1, 2] rfl)
        · have h := ite_f c26_13 h
          by_cases c26_14 : x2 = (14 : Int32)
          · have h := ite_t c26_14 h
            refine lv_tableIn (off := 166) (tgt := 192) hx hb d_M_expect_26 (by rw [c26_14]; decide) (by rw [c26_14]; decide) (by rw [c26_14]; rfl) (by decide) ?_
            exact w_M_expect_192 C x1 h hW hS (lv_sub hl [1, 2] rfl)
          · have h := ite_f c26_14 h
            by_cases c26_15 : x2 = (15 : Int32)
            · have h := ite_t c26_15 h
              refine lv_tableIn (off := 166) (tgt := 192) hx hb d_M_expect_26 (by rw [c26_15]; decide) (by rw [c26_15]; decide) (by rw [c26_15]; rfl) (by decide) ?_
              exact w_M_expect_192 C x1 h hW hS (lv_sub hl [1, 2] rfl)
            · have h := ite_f c26_15 h
              by_cases c26_16 : x2 = (16 : Int32)
              · have h := ite_t c26_16 h
                refine lv_tableIn (off := 183) (tgt := 209) hx hb d_M_expect_26 (by rw [c26_16]; decide) (by rw [c26_16]; decide) (by rw [c26_16]; rfl) (by decide) ?_
                exact w_M_expect_209 C x1 h hW hS (lv_sub hl [1, 2] rfl)
              · have h := ite_f c26_16 h
                by_cases c26_17 : x2 = (17 : Int32)
                · have h := ite_t c26_17 h
                  refine lv_tableIn (off := 183) (tgt := 209) hx hb d_M_expect_26 (by rw [c26_17]; decide) (by rw [c26_17]; decide) (by rw [c26_17]; rfl) (by decide) ?_
                  exact w_M_expect_209 C x1 h hW hS (lv_sub hl [1, 2] rfl)
                · have h := ite_f c26_17 h
                  by_cases c26_18 : x2 = (18 : Int32)
                  · have h := ite_t c26_18 h
                    refine lv_tableIn (off := 192) (tgt := 218) hx hb d_M_expect_26 (by rw [c26_18]; decide) (by rw [c26_18]; decide) (by rw [c26_18]; rfl) (by decide) ?_
                    refine lv_aload_n hx hb d_M_expect_218 rfl (lv_at hl 1 rfl) ?_
                    refine lv_bipush (v := 8) hx hb d_M_expect_219 (by decide) ?_
                    refine lv_iload_n hx hb d_M_expect_221 rfl (lv_at hl 2 rfl) ?_
                    obtain ⟨S5, eS5, h⟩ := ob_some h
                    refine hx_V (i := 200) (As := [.int ((8 : Int32)), .int (x1)]) (rest := []) C hW hS (s_M_push (8 : Int32) x1 eS5) km_M_217 kv_M_push ke_M_push kn_M kw_M_push kd_M_push (hW.fx 200 rfl) rfl q_M rfl ⟨by decide, by decide⟩ ⟨Nat.zero_le _, Nat.zero_le _⟩ rfl hl.1 rfl (Nat.le_of_ble_eq_true rfl) d_M_expect_222 (fun H locs hW hS => ?_)
                    refine lv_aload_n hx hb d_M_expect_225 rfl (lv_at hl 1 rfl) ?_
                    refine lv_iconst (v := 2) hx hb d_M_expect_226 (by decide) ?_
                    refine lv_iload_n hx hb d_M_expect_227 rfl (lv_at hl 2 rfl) ?_
                    obtain ⟨S6, eS6, h⟩ := ob_some h
                    refine hx_V (i := 200) (As := [.int ((2 : Int32)), .int (x1)]) (rest := []) C hW hS (s_M_push (2 : Int32) x1 eS6) km_M_217 kv_M_push ke_M_push kn_M kw_M_push kd_M_push (hW.fx 200 rfl) rfl q_M rfl ⟨by decide, by decide⟩ ⟨Nat.zero_le _, Nat.zero_le _⟩ rfl hl.1 rfl (Nat.le_of_ble_eq_true rfl) d_M_expect_228 (fun H locs hW hS => ?_)
                    refine lv_aload_n hx hb d_M_expect_231 rfl (lv_at hl 1 rfl) ?_
                    refine lv_iconst (v := 5) hx hb d_M_expect_232 (by decide) ?_
                    refine lv_iload_n hx hb d_M_expect_233 rfl (lv_at hl 2 rfl) ?_
                    obtain ⟨S7, eS7, h⟩ := ob_some h
                    refine hx_V (i := 200) (As := [.int ((5 : Int32)), .int (x1)]) (rest := []) C hW hS (s_M_push (5 : Int32) x1 eS7) km_M_217 kv_M_push ke_M_push kn_M kw_M_push kd_M_push (hW.fx 200 rfl) rfl q_M rfl ⟨by decide, by decide⟩ ⟨Nat.zero_le _, Nat.zero_le _⟩ rfl hl.1 rfl (Nat.le_of_ble_eq_true rfl) d_M_expect_234 (fun H locs hW hS => ?_)
                    refine lv_aload_n hx hb d_M_expect_237 rfl (lv_at hl 1 rfl) ?_
                    refine lv_iconst (v := 1) hx hb d_M_expect_238 (by decide) ?_
                    refine lv_iload_n hx hb d_M_expect_239 rfl (lv_at hl 2 rfl) ?_
                    obtain ⟨S8, eS8, h⟩ := ob_some h
                    refine hx_V (i := 200) (As := [.int ((1 : Int32)), .int (x1)]) (rest := []) C hW hS (s_M_push (1 : Int32) x1 eS8) km_M_217 kv_M_push ke_M_push kn_M kw_M_push kd_M_push (hW.fx 200 rfl) rfl q_M rfl ⟨by decide, by decide⟩ ⟨Nat.zero_le _, Nat.zero_le _⟩ rfl hl.1 rfl (Nat.le_of_ble_eq_true rfl) d_M_expect_240 (fun H locs hW hS => ?_)
                    refine lv_goto (tgt := 267) hx hb d_M_expect_243 (by decide) ?_
                    have h := Option.some.inj h
                    subst h
                    exact he_v C hW hS d_M_expect_267
                  · have h := ite_f c26_18 h
                    by_cases c26_19 : x2 = (19 : Int32)
                    · have h := ite_t c26_19 h
                      refine lv_tableIn (off := 220) (tgt := 246) hx hb d_M_expect_26 (by rw [c26_19]; decide) (by rw [c26_19]; decide) (by rw [c26_19]; rfl) (by decide) ?_
                      refine lv_aload_n hx hb d_M_expect_246 rfl (lv_at hl 1 rfl) ?_
                      refine lv_iconst (v := 1) hx hb d_M_expect_247 (by decide) ?_
                      refine lv_iload_n hx hb d_M_expect_248 rfl (lv_at hl 2 rfl) ?_
                      obtain ⟨S9, eS9, h⟩ := ob_some h
                      refine hx_V (i := 200) (As := [.int ((1 : Int32)), .int (x1)]) (rest := []) C hW hS (s_M_push (1 : Int32) x1 eS9) km_M_217 kv_M_push ke_M_push kn_M kw_M_push kd_M_push (hW.fx 200 rfl) rfl q_M rfl ⟨by decide, by decide⟩ ⟨Nat.zero_le _, Nat.zero_le _⟩ rfl hl.1 rfl (Nat.le_of_ble_eq_true rfl) d_M_expect_249 (fun H locs hW hS => ?_)
                      refine lv_goto (tgt := 267) hx hb d_M_expect_252 (by decide) ?_
                      have h := Option.some.inj h
                      subst h
                      exact he_v C hW hS d_M_expect_267
                    · have h := ite_f c26_19 h
                      by_cases c26_20 : x2 = (20 : Int32)
                      · have h := ite_t c26_20 h
                        refine lv_tableIn (off := 70) (tgt := 96) hx hb d_M_expect_26 (by rw [c26_20]; decide) (by rw [c26_20]; decide) (by rw [c26_20]; rfl) (by decide) ?_
                        exact w_M_expect_96 C x1 v3 h hW hS (lv_sub hl [1, 2, 0] rfl)
                      · have h := ite_f c26_20 h
                        by_cases c26_21 : x2 = (21 : Int32)
                        · have h := ite_t c26_21 h
                          refine lv_tableIn (off := 91) (tgt := 117) hx hb d_M_expect_26 (by rw [c26_21]; decide) (by rw [c26_21]; decide) (by rw [c26_21]; rfl) (by decide) ?_
                          exact w_M_expect_117 C x1 v3 h hW hS (lv_sub hl [1, 2, 0] rfl)
                        · have h := ite_f c26_21 h
                          by_cases c26_22 : x2 = (22 : Int32)
                          · have h := ite_t c26_22 h
                            refine lv_tableIn (off := 113) (tgt := 139) hx hb d_M_expect_26 (by rw [c26_22]; decide) (by rw [c26_22]; decide) (by rw [c26_22]; rfl) (by decide) ?_
                            exact w_M_expect_139 C x1 v3 h hW hS (lv_sub hl [1, 2, 0] rfl)
                          · have h := ite_f c26_22 h
                            by_cases c26_23 : x2 = (23 : Int32)
                            · have h := ite_t c26_23 h
                              refine lv_tableIn (off := 166) (tgt := 192) hx hb d_M_expect_26 (by rw [c26_23]; decide) (by rw [c26_23]; decide) (by rw [c26_23]; rfl) (by decide) ?_
                              exact w_M_expect_192 C x1 h hW hS (lv_sub hl [1, 2] rfl)
                            · have h := ite_f c26_23 h
                              refine lv_tableOut (tgt := 255) hx hb d_M_expect_26 (by have := lv_neT c26_10 (show ((10 : Int32)).toInt = 10 by decide); have := lv_neT c26_11 (show ((11 : Int32)).toInt = 11 by decide); have := lv_neT c26_12 (show ((12 : Int32)).toInt = 12 by decide); have := lv_neT c26_13 (show ((13 : Int32)).toInt = 13 by decide); have := lv_neT c26_14 (show ((14 : Int32)).toInt = 14 by decide); have := lv_neT c26_15 (show ((15 : Int32)).toInt = 15 by decide); have := lv_neT c26_16 (show ((16 : Int32)).toInt = 16 by decide); have := lv_neT c26_17 (show ((17 : Int32)).toInt = 17 by decide); have := lv_neT c26_18 (show ((18 : Int32)).toInt = 18 by decide); have := lv_neT c26_19 (show ((19 : Int32)).toInt = 19 by decide); have := lv_neT c26_20 (show ((20 : Int32)).toInt = 20 by decide); have := lv_neT c26_21 (show ((21 : Int32)).toInt = 21 by decide); have := lv_neT c26_22 (show ((22 : Int32)).toInt = 22 by decide); have := lv_neT c26_23 (show ((23 : Int32)).toInt = 23 by decide); omega) (by decide) ?_
                              exact w_M_expect_255 C x1 h hW hS (lv_sub hl [1, 2] rfl)
set_option maxHeartbeats 4000000 in
set_option maxRecDepth 100000 in
theorem s_M_expect (x1 : Int32) {S : HS} {S' : HS} (h : f_M_expect x1 S = some S') : Met l y_M_expect (.code y_M_expect b_M_expect 4 none :: lw_g) (rmD 1 0 0) (PcH D cA z ac E1 ad [.ref (ad 200), .int (x1)] S) (QN D cA z ac E1 ad none S') 0 0 (zA z) := by
  refine Met.ofH (own := "TwoLevelParserModel") (by decide) rfl (Nat.le_of_ble_eq_true rfl) ?_
  intro p e s m args below meth c H ls C hW hS hl
  have hl : lv_has ls 4 [(0, .ref (ad 200)), (1, .int (x1))] := hl
  obtain ⟨⟨hx, hb, hml, hown, hts⟩, hK, hr, hlo⟩ := id C
  unfold f_M_expect at h
  refine lv_aload_n hx hb d_M_expect_0 rfl (lv_at hl 0 rfl) ?_
  refine hg_r (j := 220) C hW 200 20 (hW.fx 200 rfl) rfl q_M (by decide) rfl (hW.fn (E := E1) (i := 200) (k := 20) rfl) (lkF C kf_M_43) d_M_expect_1 ?_
  refine lv_iload_n hx hb d_M_expect_4 rfl (lv_at hl 1 rfl) ?_
  obtain ⟨g1, h⟩ := gd_some h
  refine ha_i C hW 220 (hW.fx 220 rfl) rfl rfl g1 d_M_expect_5 ?_
  obtain ⟨v2, ev2, h⟩ := lt_some h
  refine lt_i_n (lv' := [(2, .int (v2)), (0, .ref (ad 200)), (1, .int (x1))]) C d_M_expect_6 rfl hl (by decide) ev2 rfl (fun ls hl => ?_)
  refine lv_iload_n hx hb d_M_expect_7 rfl (lv_at hl 0 rfl) ?_
  refine lv_bipush (v := 18) hx hb d_M_expect_8 (by decide) ?_
  refine lv_icmp_ge (tgt := 17) hx hb d_M_expect_10 (by decide) (fun c10 => ?_) (fun c10 => ?_)
  · have h := ite_t c10 h
    refine lv_iconst (v := 2) hx hb d_M_expect_17 (by decide) ?_
    exact w_M_expect_18 C x1 v2 (2 : Int32) h hW hS (lv_sub hl [1, 2, 0] rfl)
  · have h := ite_f c10 h
    refine lv_iconst (v := 1) hx hb d_M_expect_13 (by decide) ?_
    refine lv_goto (tgt := 18) hx hb d_M_expect_14 (by decide) ?_
    exact w_M_expect_18 C x1 v2 (1 : Int32) h hW hS (lv_sub hl [1, 2, 0] rfl)
end WK
