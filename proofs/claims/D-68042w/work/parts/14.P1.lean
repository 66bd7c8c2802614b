-- printed by gen/walk.py
def f_X_isOf_b24 (x0 : Int32) : Option Int32 :=
  (if x0 = (45 : Int32) then
  some (1 : Int32)
  else
  some (0 : Int32))
def f_X_isOf_b12 (x0 : Int32) : Option Int32 :=
  (if x0 < (48 : Int32) then
  f_X_isOf_b24 x0
  else
  (if x0 ≤ (57 : Int32) then
  some (1 : Int32)
  else
  f_X_isOf_b24 x0))
def f_X_isOf (x0 : Int32) : Option Int32 :=
  (if x0 < (97 : Int32) then
  f_X_isOf_b12 x0
  else
  (if x0 ≤ (122 : Int32) then
  some (1 : Int32)
  else
  f_X_isOf_b12 x0))
section WK
variable {p : Program} {l : Launch} {e : Env} {s : State} {m : MethodId} {args : Array Value} {below : List Frame} {meth : Method} {c : Code} {D : va_G} {cA : Nat → ClassId} {z : Nat} {ac : Nat → Nat} {ad : Nat → Nat}
set_option maxHeartbeats 4000000 in
set_option maxRecDepth 100000 in
theorem w_X_isOf_24 (C : CB p s m args c meth b_X_isOf "TwoLevelParser$Lexer" 1 (some .boolean) D cA z ac) {r : Int32} (x0 : Int32) {S : HS} {H : Heap} {locs : List Loc} {ls : Array Slot} (h : f_X_isOf_b24 x0 = some r) (hW : HW D cA z ac E1 ad S H) (hS : va_S (zA z) s.heap H locs) (hl : lv_has ls 1 [(0, .int (x0))]) : GW p l e 0 s m args below meth c D cA z ac E1 ad (some (.int r)) S H locs (F0 m 24 ls []) := by
  obtain ⟨⟨hx, hb, hml, hown, hts⟩, hK, hr, hlo⟩ := id C
  unfold f_X_isOf_b24 at h
  refine lv_iload_n hx hb d_X_isOf_24 rfl (lv_at hl 0 rfl) ?_
  refine lv_bipush (v := 45) hx hb d_X_isOf_25 (by decide) ?_
  refine lv_icmp_ne (tgt := 34) hx hb d_X_isOf_27 (by decide) (fun c27 => ?_) (fun c27 => ?_)
  · have h := ite_f c27 h
    refine lv_iconst (v := 0) hx hb d_X_isOf_34 (by decide) ?_
    have h := Option.some.inj h
    subst h
    exact he_z C hW hS (by decide) d_X_isOf_35
  · have h := ite_t c27 h
    refine lv_iconst (v := 1) hx hb d_X_isOf_30 (by decide) ?_
    refine lv_goto (tgt := 35) hx hb d_X_isOf_31 (by decide) ?_
    have h := Option.some.inj h
    subst h
    exact he_z C hW hS (by decide) d_X_isOf_35
set_option maxHeartbeats 4000000 in
set_option maxRecDepth 100000 in
theorem w_X_isOf_12 (C : CB p s m args c meth b_X_isOf "TwoLevelParser$Lexer" 1 (some .boolean) D cA z ac) {r : Int32} (x0 : Int32) {S : HS} {H : Heap} {locs : List Loc} {ls : Array Slot} (h : f_X_isOf_b12 x0 = some r) (hW : HW D cA z ac E1 ad S H) (hS : va_S (zA z) s.heap H locs) (hl : lv_has ls 1 [(0, .int (x0))]) : GW p l e 0 s m args below meth c D cA z ac E1 ad (some (.int r)) S H locs (F0 m 12 ls []) := by
  obtain ⟨⟨hx, hb, hml, hown, hts⟩, hK, hr, hlo⟩ := id C
  unfold f_X_isOf_b12 at h
  refine lv_iload_n hx hb d_X_isOf_12 rfl (lv_at hl 0 rfl) ?_
  refine lv_bipush (v := 48) hx hb d_X_isOf_13 (by decide) ?_
  refine lv_icmp_lt (tgt := 24) hx hb d_X_isOf_15 (by decide) (fun c15 => ?_) (fun c15 => ?_)
  · have h := ite_t c15 h
    exact w_X_isOf_24 C x0 h hW hS (lv_sub hl [0] rfl)
  · have h := ite_f c15 h
    refine lv_iload_n hx hb d_X_isOf_18 rfl (lv_at hl 0 rfl) ?_
    refine lv_bipush (v := 57) hx hb d_X_isOf_19 (by decide) ?_
    refine lv_icmp_le (tgt := 30) hx hb d_X_isOf_21 (by decide) (fun c21 => ?_) (fun c21 => ?_)
    · have h := ite_t c21 h
      refine lv_iconst (v := 1) hx hb d_X_isOf_30 (by decide) ?_
      refine lv_goto (tgt := 35) hx hb d_X_isOf_31 (by decide) ?_
      have h := Option.some.inj h
      subst h
      exact he_z C hW hS (by decide) d_X_isOf_35
    · have h := ite_f c21 h
      exact w_X_isOf_24 C x0 h hW hS (lv_sub hl [0] rfl)
set_option maxHeartbeats 4000000 in
set_option maxRecDepth 100000 in
theorem s_X_isOf (x0 : Int32) {S : HS} {r : Int32} (h : f_X_isOf x0 = some r) : Met l y_X_isOf (.code y_X_isOf b_X_isOf 1 (some .boolean) :: lw_g) (rmD 0 0 0) (PcH D cA z ac E1 ad [.int (x0)] S) (QN D cA z ac E1 ad (some (.int r)) S) 0 0 (zA z) := by
  refine Met.ofH (own := "TwoLevelParser$Lexer") (by decide) rfl (Nat.le_of_ble_eq_true rfl) ?_
  intro p e s m args below meth c H ls C hW hS hl
  have hl : lv_has ls 1 [(0, .int (x0))] := hl
  obtain ⟨⟨hx, hb, hml, hown, hts⟩, hK, hr, hlo⟩ := id C
  unfold f_X_isOf at h
  refine lv_iload_n hx hb d_X_isOf_0 rfl (lv_at hl 0 rfl) ?_
  refine lv_bipush (v := 97) hx hb d_X_isOf_1 (by decide) ?_
  refine lv_icmp_lt (tgt := 12) hx hb d_X_isOf_3 (by decide) (fun c3 => ?_) (fun c3 => ?_)
  · have h := ite_t c3 h
    exact w_X_isOf_12 C x0 h hW hS (lv_sub hl [0] rfl)
  · have h := ite_f c3 h
    refine lv_iload_n hx hb d_X_isOf_6 rfl (lv_at hl 0 rfl) ?_
    refine lv_bipush (v := 122) hx hb d_X_isOf_7 (by decide) ?_
    refine lv_icmp_le (tgt := 30) hx hb d_X_isOf_9 (by decide) (fun c9 => ?_) (fun c9 => ?_)
    · have h := ite_t c9 h
      refine lv_iconst (v := 1) hx hb d_X_isOf_30 (by decide) ?_
      refine lv_goto (tgt := 35) hx hb d_X_isOf_31 (by decide) ?_
      have h := Option.some.inj h
      subst h
      exact he_z C hW hS (by decide) d_X_isOf_35
    · have h := ite_f c9 h
      exact w_X_isOf_12 C x0 h hW hS (lv_sub hl [0] rfl)
end WK
def f_X_spell_b58 (n : Nat) (kc : Int32 → Int32 → HS → Option (Nat × HS)) (x2 : Int32) (y0 : Int32) (S : HS) : Option (Nat × HS) :=
  lt y0 fun v5 =>
  gd (inR x2 8192) <|
  lt (sL S 1 5 ((((32 : Int64) * (gL S 1 5)) + (gF S 2 x2.toNatClampNeg).toInt64) - (96 : Int64))) fun S7 =>
  lt (x2 + 1) fun v8 =>
  kc v5 v8 S7
def f_X_spell_b89 (n : Nat) (x1 : Int32) (S : HS) : Option (Nat × HS) :=
  (if x1 = 0 then
  some (505, S)
  else
  some (502, S))
def f_X_spell_b30B (n : Nat) (kc : Int32 → Int32 → HS → Option (Nat × HS)) (x1 : Int32) (x2 : Int32) (S : HS) : Option (Nat × HS) :=
  (if (gF S 1 2) ≤ x2 then
  f_X_spell_b89 n x1 S
  else
  (if x1 = 0 then
  f_X_spell_b89 n x1 S
  else
  gd (inR x2 8192) <|
  (if (gF S 2 x2.toNatClampNeg) < (97 : Int32) then
  f_X_spell_b58 n kc x2 (0 : Int32) S
  else
  f_X_spell_b58 n kc x2 (1 : Int32) S)))
def f_X_spell_b30 (n : Nat) (k : Nat) : Int32 → Int32 → HS → Option (Nat × HS) := lpF (fun _ _ _ => none) (f_X_spell_b30B n) k
def f_X_spell_b24 (n : Nat) (y0 : Int32) (S : HS) : Option (Nat × HS) :=
  lt y0 fun v2 =>
  lt (gF S 1 4) fun v3 =>
  f_X_spell_b30 n n v2 v3 S
def f_X_spell (n : Nat) (S : HS) : Option (Nat × HS) :=
  lt (sL S 1 5 (0 : Int64)) fun S1 =>
  (if (12 : Int32) < ((gF S1 1 2) - (gF S1 1 4)) then
  f_X_spell_b24 n (0 : Int32) S1
  else
  f_X_spell_b24 n (1 : Int32) S1)
section WK
variable {p : Program} {l : Launch} {e : Env} {s : State} {m : MethodId} {args : Array Value} {below : List Frame} {meth : Method} {c : Code} {D : va_G} {cA : Nat → ClassId} {z : Nat} {ac : Nat → Nat} {ad : Nat → Nat}
set_option maxHeartbeats 4000000 in
set_option maxRecDepth 100000 in
theorem w_X_spell_58 (C : CB p s m args c meth b_X_spell "TwoLevelParser$Lexer" 3 (some (.object "TwoLevelParser$Sort")) D cA z ac) (n : Nat) (kc : Int32 → Int32 → HS → Option (Nat × HS)) {r : Nat} {S' : HS} (hk : ∀ (x1 : Int32) (x2 : Int32) (S : HS) {H : Heap} {locs : List Loc} {ls : Array Slot}, kc x1 x2 S = some (r, S') → HW D cA z ac E1 ad S H → va_S (zA z) s.heap H locs → lv_has ls 3 [(0, .ref (ad 1)), (1, .int (x1)), (2, .int (x2))] → GW p l e 0 s m args below meth c D cA z ac E1 ad (some (.ref (ad r))) S' H locs (F0 m 30 ls [])) (x2 : Int32) (y0 : Int32) {S : HS} {H : Heap} {locs : List Loc} {ls : Array Slot} (h : f_X_spell_b58 n kc x2 y0 S = some (r, S')) (hW : HW D cA z ac E1 ad S H) (hS : va_S (zA z) s.heap H locs) (hl : lv_has ls 3 [(0, .ref (ad 1)), (2, .int (x2))]) : GW p l e 0 s m args below meth c D cA z ac E1 ad (some (.ref (ad r))) S' H locs (F0 m 58 ls [.int (y0)]) := by
  obtain ⟨⟨hx, hb, hml, hown, hts⟩, hK, hr, hlo⟩ := id C
  unfold f_X_spell_b58 at h
  obtain ⟨v5, ev5, h⟩ := lt_some h
  refine lt_i_n (lv' := [(1, .int (v5)), (0, .ref (ad 1)), (2, .int (x2))]) C d_X_spell_58 rfl hl (by decide) ev5 rfl (fun ls hl => ?_)
  refine lv_aload_n hx hb d_X_spell_59 rfl (lv_at hl 1 rfl) ?_
  refine lv_ldc2 hx hb hown (hts _ kl_X_61) d_X_spell_60 ?_
  refine lv_aload_n hx hb d_X_spell_63 rfl (lv_at hl 1 rfl) ?_
  refine hg_l C hW 1 5 (hW.fx 1 rfl) rfl q_X (by decide) rfl (lkF C kf_X_57) d_X_spell_64 ?_
  refine lv_lmul hx hb d_X_spell_67 ?_
  refine lv_aload_n hx hb d_X_spell_68 rfl (lv_at hl 1 rfl) ?_
  refine hg_r (j := 2) C hW 1 0 (hW.fx 1 rfl) rfl q_X (by decide) rfl (hW.fn (E := E1) (i := 1) (k := 0) rfl) (lkF C kf_X_9) d_X_spell_69 ?_
  refine lv_iload_n hx hb d_X_spell_72 rfl (lv_at hl 2 rfl) ?_
  obtain ⟨g6, h⟩ := gd_some h
  refine ha_b C hW 2 (hW.fx 2 rfl) rfl rfl g6 d_X_spell_73 ?_
  refine lv_i2l (v := (gF S 2 x2.toNatClampNeg).toInt64) hx hb d_X_spell_74 rfl ?_
  refine lv_ladd hx hb d_X_spell_75 ?_
  refine lv_ldc2 hx hb hown (hts _ kl_X_63) d_X_spell_76 ?_
  refine lv_lsub hx hb d_X_spell_79 ?_
  obtain ⟨S7, eS7, h⟩ := lt_some h
  refine hp_l C hW hS 1 5 (hW.fx 1 rfl) rfl q_X (by decide) rfl rfl rfl (lkF C kf_X_57) eS7 d_X_spell_80 (fun H locs hW hS => ?_)
  obtain ⟨v8, ev8, h⟩ := lt_some h
  refine lv_iinc (v := v8) (lv' := [(2, .int (v8)), (1, .int (v5)), (0, .ref (ad 1))]) hx hb d_X_spell_83 hl (k := 2) rfl (by rw [ev8]; rfl) (by decide) rfl (fun ls hl => ?_)
  refine lv_goto (tgt := 30) hx hb d_X_spell_86 (by decide) ?_
  exact hk _ _ _ h hW hS (lv_sub hl [2, 1, 0] rfl)
set_option maxHeartbeats 4000000 in
set_option maxRecDepth 100000 in
theorem w_X_spell_89 (C : CB p s m args c meth b_X_spell "TwoLevelParser$Lexer" 3 (some (.object "TwoLevelParser$Sort")) D cA z ac) (n : Nat) {r : Nat} {S' : HS} (x1 : Int32) {S : HS} {H : Heap} {locs : List Loc} {ls : Array Slot} (h : f_X_spell_b89 n x1 S = some (r, S')) (hW : HW D cA z ac E1 ad S H) (hS : va_S (zA z) s.heap H locs) (hl : lv_has ls 3 [(1, .int (x1))]) : GW p l e 0 s m args below meth c D cA z ac E1 ad (some (.ref (ad r))) S' H locs (F0 m 89 ls []) := by
  obtain ⟨⟨hx, hb, hml, hown, hts⟩, hK, hr, hlo⟩ := id C
  unfold f_X_spell_b89 at h
  refine lv_iload_n hx hb d_X_spell_89 rfl (lv_at hl 0 rfl) ?_
  refine lv_if_eq (tgt := 99) hx hb d_X_spell_90 (by decide) (fun c90 => ?_) (fun c90 => ?_)
  · have h := ite_t c90 h
    refine hc_so (i := 5) C hW hS (by decide) kf_X_47 d_X_spell_99 ?_
    obtain ⟨hr1, hr2⟩ := Prod.mk.inj (Option.some.inj h)
    subst hr1
    subst hr2
    exact he_r C hW hS d_X_spell_102
  · have h := ite_f c90 h
    refine hc_so (i := 2) C hW hS (by decide) kf_X_65 d_X_spell_93 ?_
    refine lv_goto (tgt := 102) hx hb d_X_spell_96 (by decide) ?_
    obtain ⟨hr1, hr2⟩ := Prod.mk.inj (Option.some.inj h)
    subst hr1
    subst hr2
    exact he_r C hW hS d_X_spell_102
set_option maxHeartbeats 4000000 in
set_option maxRecDepth 100000 in
theorem w_X_spell_30B (C : CB p s m args c meth b_X_spell "TwoLevelParser$Lexer" 3 (some (.object "TwoLevelParser$Sort")) D cA z ac) (n : Nat) (kc : Int32 → Int32 → HS → Option (Nat × HS)) {r : Nat} {S' : HS} (hk : ∀ (x1 : Int32) (x2 : Int32) (S : HS) {H : Heap} {locs : List Loc} {ls : Array Slot}, kc x1 x2 S = some (r, S') → HW D cA z ac E1 ad S H → va_S (zA z) s.heap H locs → lv_has ls 3 [(0, .ref (ad 1)), (1, .int (x1)), (2, .int (x2))] → GW p l e 0 s m args below meth c D cA z ac E1 ad (some (.ref (ad r))) S' H locs (F0 m 30 ls [])) (x1 : Int32) (x2 : Int32) {S : HS} {H : Heap} {locs : List Loc} {ls : Array Slot} (h : f_X_spell_b30B n kc x1 x2 S = some (r, S')) (hW : HW D cA z ac E1 ad S H) (hS : va_S (zA z) s.heap H locs) (hl : lv_has ls 3 [(0, .ref (ad 1)), (1, .int (x1)), (2, .int (x2))]) : GW p l e 0 s m args below meth c D cA z ac E1 ad (some (.ref (ad r))) S' H locs (F0 m 30 ls []) := by
  obtain ⟨⟨hx, hb, hml, hown, hts⟩, hK, hr, hlo⟩ := id C
  unfold f_X_spell_b30B at h
  refine lv_iload_n hx hb d_X_spell_30 rfl (lv_at hl 2 rfl) ?_
  refine lv_aload_n hx hb d_X_spell_31 rfl (lv_at hl 0 rfl) ?_
  refine hg_i C hW 1 2 (hW.fx 1 rfl) rfl q_X (by decide) rfl (lkF C kf_X_15) d_X_spell_32 ?_
  refine lv_icmp_ge (tgt := 89) hx hb d_X_spell_35 (by decide) (fun c35 => ?_) (fun c35 => ?_)
  · have h := ite_t c35 h
    exact w_X_spell_89 C n x1 h hW hS (lv_sub hl [1] rfl)
  · have h := ite_f c35 h
    refine lv_iload_n hx hb d_X_spell_38 rfl (lv_at hl 1 rfl) ?_
    refine lv_if_eq (tgt := 89) hx hb d_X_spell_39 (by decide) (fun c39 => ?_) (fun c39 => ?_)
    · have h := ite_t c39 h
      exact w_X_spell_89 C n x1 h hW hS (lv_sub hl [1] rfl)
    · have h := ite_f c39 h
      refine lv_aload_n hx hb d_X_spell_42 rfl (lv_at hl 0 rfl) ?_
      refine hg_r (j := 2) C hW 1 0 (hW.fx 1 rfl) rfl q_X (by decide) rfl (hW.fn (E := E1) (i := 1) (k := 0) rfl) (lkF C kf_X_9) d_X_spell_43 ?_
      refine lv_iload_n hx hb d_X_spell_46 rfl (lv_at hl 2 rfl) ?_
      obtain ⟨g4, h⟩ := gd_some h
      refine ha_b C hW 2 (hW.fx 2 rfl) rfl rfl g4 d_X_spell_47 ?_
      refine lv_bipush (v := 97) hx hb d_X_spell_48 (by decide) ?_
      refine lv_icmp_lt (tgt := 57) hx hb d_X_spell_50 (by decide) (fun c50 => ?_) (fun c50 => ?_)
      · have h := ite_t c50 h
        refine lv_iconst (v := 0) hx hb d_X_spell_57 (by decide) ?_
        exact w_X_spell_58 C n kc hk x2 (0 : Int32) h hW hS (lv_sub hl [0, 2] rfl)
      · have h := ite_f c50 h
        refine lv_iconst (v := 1) hx hb d_X_spell_53 (by decide) ?_
        refine lv_goto (tgt := 58) hx hb d_X_spell_54 (by decide) ?_
        exact w_X_spell_58 C n kc hk x2 (1 : Int32) h hW hS (lv_sub hl [0, 2] rfl)
set_option maxHeartbeats 4000000 in
set_option maxRecDepth 100000 in
theorem w_X_spell_30 (C : CB p s m args c meth b_X_spell "TwoLevelParser$Lexer" 3 (some (.object "TwoLevelParser$Sort")) D cA z ac) (n : Nat) (k : Nat) {r : Nat} {S' : HS} : ∀ (x1 : Int32) (x2 : Int32) {S : HS} {H : Heap} {locs : List Loc} {ls : Array Slot}, f_X_spell_b30 n k x1 x2 S = some (r, S') → HW D cA z ac E1 ad S H → va_S (zA z) s.heap H locs → lv_has ls 3 [(0, .ref (ad 1)), (1, .int (x1)), (2, .int (x2))] → GW p l e 0 s m args below meth c D cA z ac E1 ad (some (.ref (ad r))) S' H locs (F0 m 30 ls []) := by
  induction k with
  | zero => intro x1 x2 S H locs ls h; cases h
  | succ k ih => intro x1 x2 S H locs ls h hW hS hl; exact w_X_spell_30B C n (f_X_spell_b30 n k) (fun x1 x2 S H locs ls h hW hS hl => ih x1 x2 h hW hS hl) x1 x2 h hW hS hl
set_option maxHeartbeats 4000000 in
set_option maxRecDepth 100000 in
theorem w_X_spell_24 (C : CB p s m args c meth b_X_spell "TwoLevelParser$Lexer" 3 (some (.object "TwoLevelParser$Sort")) D cA z ac) (n : Nat) {r : Nat} {S' : HS} (y0 : Int32) {S : HS} {H : Heap} {locs : List Loc} {ls : Array Slot} (h : f_X_spell_b24 n y0 S = some (r, S')) (hW : HW D cA z ac E1 ad S H) (hS : va_S (zA z) s.heap H locs) (hl : lv_has ls 3 [(0, .ref (ad 1))]) : GW p l e 0 s m args below meth c D cA z ac E1 ad (some (.ref (ad r))) S' H locs (F0 m 24 ls [.int (y0)]) := by
  obtain ⟨⟨hx, hb, hml, hown, hts⟩, hK, hr, hlo⟩ := id C
  unfold f_X_spell_b24 at h
  obtain ⟨v2, ev2, h⟩ := lt_some h
  refine lt_i_n (lv' := [(1, .int (v2)), (0, .ref (ad 1))]) C d_X_spell_24 rfl hl (by decide) ev2 rfl (fun ls hl => ?_)
  refine lv_aload_n hx hb d_X_spell_25 rfl (lv_at hl 1 rfl) ?_
  refine hg_i C hW 1 4 (hW.fx 1 rfl) rfl q_X (by decide) rfl (lkF C kf_X_25) d_X_spell_26 ?_
  obtain ⟨v3, ev3, h⟩ := lt_some h
  refine lt_i_n (lv' := [(2, .int (v3)), (1, .int (v2)), (0, .ref (ad 1))]) C d_X_spell_29 rfl hl (by decide) ev3 rfl (fun ls hl => ?_)
  exact w_X_spell_30 C n n v2 v3 h hW hS (lv_sub hl [2, 1, 0] rfl)
set_option maxHeartbeats 4000000 in
set_option maxRecDepth 100000 in
theorem s_X_spell (n : Nat) {S : HS} {r : Nat} {S' : HS} (h : f_X_spell n S = some (r, S')) : Met l y_X_spell (.code y_X_spell b_X_spell 3 (some (.object "TwoLevelParser$Sort")) :: lw_g) (rmD 0 0 0) (PcH D cA z ac E1 ad [.ref (ad 1)] S) (QN D cA z ac E1 ad (some (.ref (ad r))) S') 0 0 (zA z) := by
  refine Met.ofH (own := "TwoLevelParser$Lexer") (by decide) rfl (Nat.le_of_ble_eq_true rfl) ?_
  intro p e s m args below meth c H ls C hW hS hl
  have hl : lv_has ls 3 [(0, .ref (ad 1))] := hl
  obtain ⟨⟨hx, hb, hml, hown, hts⟩, hK, hr, hlo⟩ := id C
  unfold f_X_spell at h
  refine lv_aload_n hx hb d_X_spell_0 rfl (lv_at hl 0 rfl) ?_
  refine lv_lconst (v := 0) hx hb d_X_spell_1 (by decide) ?_
  obtain ⟨S1, eS1, h⟩ := lt_some h
  refine hp_l C hW hS 1 5 (hW.fx 1 rfl) rfl q_X (by decide) rfl rfl rfl (lkF C kf_X_57) eS1 d_X_spell_2 (fun H locs hW hS => ?_)
  refine lv_aload_n hx hb d_X_spell_5 rfl (lv_at hl 0 rfl) ?_
  refine hg_i C hW 1 2 (hW.fx 1 rfl) rfl q_X (by decide) rfl (lkF C kf_X_15) d_X_spell_6 ?_
  refine lv_aload_n hx hb d_X_spell_9 rfl (lv_at hl 0 rfl) ?_
  refine hg_i C hW 1 4 (hW.fx 1 rfl) rfl q_X (by decide) rfl (lkF C kf_X_25) d_X_spell_10 ?_
  refine lv_isub hx hb d_X_spell_13 ?_
  refine lv_bipush (v := 12) hx hb d_X_spell_14 (by decide) ?_
  refine lv_icmp_gt (tgt := 23) hx hb d_X_spell_16 (by decide) (fun c16 => ?_) (fun c16 => ?_)
  · have h := ite_t c16 h
    refine lv_iconst (v := 0) hx hb d_X_spell_23 (by decide) ?_
    exact w_X_spell_24 C n (0 : Int32) h hW hS (lv_sub hl [0] rfl)
  · have h := ite_f c16 h
    refine lv_iconst (v := 1) hx hb d_X_spell_19 (by decide) ?_
    refine lv_goto (tgt := 24) hx hb d_X_spell_20 (by decide) ?_
    exact w_X_spell_24 C n (1 : Int32) h hW hS (lv_sub hl [0] rfl)
end WK
def f_X_count_b143 (n : Nat) (kc : Int32 → Int64 → Int32 → Int32 → HS → Option (Nat × HS)) (x1 : Int32) (x2 : Int64) (x6 : Int32) (y0 : Int32) (S : HS) : Option (Nat × HS) :=
  lt y0 fun v14 =>
  lt (x6 + 1) fun v15 =>
  kc x1 x2 v14 v15 S
def f_X_count_b142 (n : Nat) (kc : Int32 → Int64 → Int32 → Int32 → HS → Option (Nat × HS)) (x1 : Int32) (x2 : Int64) (x6 : Int32) (S : HS) : Option (Nat × HS) :=
  f_X_count_b143 n kc x1 x2 x6 (0 : Int32) S
def f_X_count_b104 (n : Nat) (kc : Int32 → Int64 → Int32 → Int32 → HS → Option (Nat × HS)) (x1 : Int32) (x2 : Int64) (x6 : Int32) (y0 : Int32) (S : HS) : Option (Nat × HS) :=
  lt y0 fun v9 =>
  gd (inR x6 8192) <|
  lt ((((10 : Int64) * x2) + (gF S 2 x6.toNatClampNeg).toInt64) - (48 : Int64)) fun v11 =>
  (if v9 = 0 then
  f_X_count_b142 n kc x1 v11 x6 S
  else
  (if 0 < (lg_cmp v11 (2147483648 : Int64)) then
  f_X_count_b142 n kc x1 v11 x6 S
  else
  f_X_count_b143 n kc x1 v11 x6 (1 : Int32) S))
def f_X_count_b103 (n : Nat) (kc : Int32 → Int64 → Int32 → Int32 → HS → Option (Nat × HS)) (x1 : Int32) (x2 : Int64) (x6 : Int32) (S : HS) : Option (Nat × HS) :=
  f_X_count_b104 n kc x1 x2 x6 (0 : Int32) S
def f_X_count_b161 (n : Nat) (x5 : Int32) (y0 : Int64) (S : HS) : Option (Nat × HS) :=
  lt y0 fun v12 =>
  lt (sF S 1 6 (v12.toInt32)) fun S13 =>
  (if x5 = 0 then
  some (505, S13)
  else
  (if 0 < (lg_cmp v12 (2147483647 : Int64)) then
  some (505, S13)
  else
  some (503, S13)))
def f_X_count_b151 (n : Nat) (x1 : Int32) (x2 : Int64) (x5 : Int32) (S : HS) : Option (Nat × HS) :=
  (if x1 = 0 then
  f_X_count_b161 n x5 x2 S
  else
  f_X_count_b161 n x5 (-x2) S)
def f_X_count_b61B (n : Nat) (kc : Int32 → Int64 → Int32 → Int32 → HS → Option (Nat × HS)) (x1 : Int32) (x2 : Int64) (x5 : Int32) (x6 : Int32) (S : HS) : Option (Nat × HS) :=
  (if (gF S 1 2) ≤ x6 then
  f_X_count_b151 n x1 x2 x5 S
  else
  (if x5 = 0 then
  f_X_count_b151 n x1 x2 x5 S
  else
  gd (inR x6 8192) <|
  (if (gF S 2 x6.toNatClampNeg) < (48 : Int32) then
  f_X_count_b103 n kc x1 x2 x6 S
  else
  gd (inR x6 8192) <|
  (if (57 : Int32) < (gF S 2 x6.toNatClampNeg) then
  f_X_count_b103 n kc x1 x2 x6 S
  else
  f_X_count_b104 n kc x1 x2 x6 (1 : Int32) S))))
def f_X_count_b61 (n : Nat) (k : Nat) : Int32 → Int64 → Int32 → Int32 → HS → Option (Nat × HS) := lpF (fun _ _ _ _ _ => none) (f_X_count_b61B n) k
def f_X_count_b55 (n : Nat) (x1 : Int32) (x2 : Int64) (x4 : Int32) (y0 : Int32) (S : HS) : Option (Nat × HS) :=
  lt y0 fun v5 =>
  lt x4 fun v6 =>
  f_X_count_b61 n n x1 x2 v5 v6 S
def f_X_count_b39 (n : Nat) (x1 : Int32) (x2 : Int64) (y0 : Int32) (S : HS) : Option (Nat × HS) :=
  lt y0 fun v4 =>
  (if (gF S 1 2) ≤ v4 then
  f_X_count_b55 n x1 x2 v4 (0 : Int32) S
  else
  f_X_count_b55 n x1 x2 v4 (1 : Int32) S)
def f_X_count_b19 (n : Nat) (y0 : Int32) (S : HS) : Option (Nat × HS) :=
  lt y0 fun v2 =>
  lt (0 : Int64) fun v3 =>
  (if v2 = 0 then
  f_X_count_b39 n v2 v3 (gF S 1 4) S
  else
  f_X_count_b39 n v2 v3 ((gF S 1 4) + (1 : Int32)) S)
def f_X_count (n : Nat) (S : HS) : Option (Nat × HS) :=
  gd (inR (gF S 1 4) 8192) <|
  (if (gF S 2 (gF S 1 4).toNatClampNeg) = (45 : Int32) then
  f_X_count_b19 n (1 : Int32) S
  else
  f_X_count_b19 n (0 : Int32) S)
section WK
variable {p : Program} {l : Launch} {e : Env} {s : State} {m : MethodId} {args : Array Value} {below : List Frame} {meth : Method} {c : Code} {D : va_G} {cA : Nat → ClassId} {z : Nat} {ac : Nat → Nat} {ad : Nat → Nat}
set_option maxHeartbeats 4000000 in
set_option maxRecDepth 100000 in
theorem w_X_count_143 (C : CB p s m args c meth b_X_count "TwoLevelParser$Lexer" 7 (some (.object "TwoLevelParser$Sort")) D cA z ac) (n : Nat) (kc : Int32 → Int64 → Int32 → Int32 → HS → Option (Nat × HS)) {r : Nat} {S' : HS} (hk : ∀ (x1 : Int32) (x2 : Int64) (x5 : Int32) (x6 : Int32) (S : HS) {H : Heap} {locs : List Loc} {ls : Array Slot}, kc x1 x2 x5 x6 S = some (r, S') → HW D cA z ac E1 ad S H → va_S (zA z) s.heap H locs → lv_has ls 7 [(0, .ref (ad 1)), (1, .int (x1)), (2, .long (x2)), (5, .int (x5)), (6, .int (x6))] → GW p l e 0 s m args below meth c D cA z ac E1 ad (some (.ref (ad r))) S' H locs (F0 m 61 ls [])) (x1 : Int32) (x2 : Int64) (x6 : Int32) (y0 : Int32) {S : HS} {H : Heap} {locs : List Loc} {ls : Array Slot} (h : f_X_count_b143 n kc x1 x2 x6 y0 S = some (r, S')) (hW : HW D cA z ac E1 ad S H) (hS : va_S (zA z) s.heap H locs) (hl : lv_has ls 7 [(0, .ref (ad 1)), (1, .int (x1)), (2, .long (x2)), (6, .int (x6))]) : GW p l e 0 s m args below meth c D cA z ac E1 ad (some (.ref (ad r))) S' H locs (F0 m 143 ls [.int (y0)]) := by
  obtain ⟨⟨hx, hb, hml, hown, hts⟩, hK, hr, hlo⟩ := id C
  unfold f_X_count_b143 at h
  obtain ⟨v14, ev14, h⟩ := lt_some h
  refine lt_i (lv' := [(5, .int (v14)), (0, .ref (ad 1)), (1, .int (x1)), (2, .long (x2)), (6, .int (x6))]) C d_X_count_143 hl (by decide) ev14 rfl (fun ls hl => ?_)
  obtain ⟨v15, ev15, h⟩ := lt_some h
  refine lv_iinc (v := v15) (lv' := [(6, .int (v15)), (5, .int (v14)), (0, .ref (ad 1)), (1, .int (x1)), (2, .long (x2))]) hx hb d_X_count_145 hl (k := 4) rfl (by rw [ev15]; rfl) (by decide) rfl (fun ls hl => ?_)
  refine lv_goto (tgt := 61) hx hb d_X_count_148 (by decide) ?_
  exact hk _ _ _ _ _ h hW hS (lv_sub hl [2, 3, 4, 1, 0] rfl)
set_option maxHeartbeats 4000000 in
set_option maxRecDepth 100000 in
theorem w_X_count_142 (C : CB p s m args c meth b_X_count "TwoLevelParser$Lexer" 7 (some (.object "TwoLevelParser$Sort")) D cA z ac) (n : Nat) (kc : Int32 → Int64 → Int32 → Int32 → HS → Option (Nat × HS)) {r : Nat} {S' : HS} (hk : ∀ (x1 : Int32) (x2 : Int64) (x5 : Int32) (x6 : Int32) (S : HS) {H : Heap} {locs : List Loc} {ls : Array Slot}, kc x1 x2 x5 x6 S = some (r, S') → HW D cA z ac E1 ad S H → va_S (zA z) s.heap H locs → lv_has ls 7 [(0, .ref (ad 1)), (1, .int (x1)), (2, .long (x2)), (5, .int (x5)), (6, .int (x6))] → GW p l e 0 s m args below meth c D cA z ac E1 ad (some (.ref (ad r))) S' H locs (F0 m 61 ls [])) (x1 : Int32) (x2 : Int64) (x6 : Int32) {S : HS} {H : Heap} {locs : List Loc} {ls : Array Slot} (h : f_X_count_b142 n kc x1 x2 x6 S = some (r, S')) (hW : HW D cA z ac E1 ad S H) (hS : va_S (zA z) s.heap H locs) (hl : lv_has ls 7 [(0, .ref (ad 1)), (1, .int (x1)), (2, .long (x2)), (6, .int (x6))]) : GW p l e 0 s m args below meth c D cA z ac E1 ad (some (.ref (ad r))) S' H locs (F0 m 142 ls []) := by
  obtain ⟨⟨hx, hb, hml, hown, hts⟩, hK, hr, hlo⟩ := id C
  unfold f_X_count_b142 at h
  refine lv_iconst (v := 0) hx hb d_X_count_142 (by decide) ?_
  exact w_X_count_143 C n kc hk x1 x2 x6 (0 : Int32) h hW hS (lv_sub hl [0, 1, 2, 3] rfl)
set_option maxHeartbeats 4000000 in
set_option maxRecDepth 100000 in
theorem w_X_count_104 (C : CB p s m args c meth b_X_count "TwoLevelParser$Lexer" 7 (some (.object "TwoLevelParser$Sort")) D cA z ac) (n : Nat) (kc : Int32 → Int64 → Int32 → Int32 → HS → Option (Nat × HS)) {r : Nat} {S' : HS} (hk : ∀ (x1 : Int32) (x2 : Int64) (x5 : Int32) (x6 : Int32) (S : HS) {H : Heap} {locs : List Loc} {ls : Array Slot}, kc x1 x2 x5 x6 S = some (r, S') → HW D cA z ac E1 ad S H → va_S (zA z) s.heap H locs → lv_has ls 7 [(0, .ref (ad 1)), (1, .int (x1)), (2, .long (x2)), (5, .int (x5)), (6, .int (x6))] → GW p l e 0 s m args below meth c D cA z ac E1 ad (some (.ref (ad r))) S' H locs (F0 m 61 ls [])) (x1 : Int32) (x2 : Int64) (x6 : Int32) (y0 : Int32) {S : HS} {H : Heap} {locs : List Loc} {ls : Array Slot} (h : f_X_count_b104 n kc x1 x2 x6 y0 S = some (r, S')) (hW : HW D cA z ac E1 ad S H) (hS : va_S (zA z) s.heap H locs) (hl : lv_has ls 7 [(0, .ref (ad 1)), (1, .int (x1)), (2, .long (x2)), (6, .int (x6))]) : GW p l e 0 s m args below meth c D cA z ac E1 ad (some (.ref (ad r))) S' H locs (F0 m 104 ls [.int (y0)]) := by
  obtain ⟨⟨hx, hb, hml, hown, hts⟩, hK, hr, hlo⟩ := id C
  unfold f_X_count_b104 at h
  obtain ⟨v9, ev9, h⟩ := lt_some h
  refine lt_i (lv' := [(5, .int (v9)), (0, .ref (ad 1)), (1, .int (x1)), (2, .long (x2)), (6, .int (x6))]) C d_X_count_104 hl (by decide) ev9 rfl (fun ls hl => ?_)
  refine lv_ldc2 hx hb hown (hts _ kl_X_68) d_X_count_106 ?_
  refine lv_lload_n hx hb d_X_count_109 rfl (lv_at hl 3 rfl) ?_
  refine lv_lmul hx hb d_X_count_110 ?_
  refine lv_aload_n hx hb d_X_count_111 rfl (lv_at hl 1 rfl) ?_
  refine hg_r (j := 2) C hW 1 0 (hW.fx 1 rfl) rfl q_X (by decide) rfl (hW.fn (E := E1) (i := 1) (k := 0) rfl) (lkF C kf_X_9) d_X_count_112 ?_
  refine lv_iload hx hb d_X_count_115 (lv_at hl 4 rfl) ?_
  obtain ⟨g10, h⟩ := gd_some h
  refine ha_b C hW 2 (hW.fx 2 rfl) rfl rfl g10 d_X_count_117 ?_
  refine lv_i2l (v := (gF S 2 x6.toNatClampNeg).toInt64) hx hb d_X_count_118 rfl ?_
  refine lv_ladd hx hb d_X_count_119 ?_
  refine lv_ldc2 hx hb hown (hts _ kl_X_70) d_X_count_120 ?_
  refine lv_lsub hx hb d_X_count_123 ?_
  obtain ⟨v11, ev11, h⟩ := lt_some h
  refine lt_l_n (lv' := [(2, .long (v11)), (5, .int (v9)), (0, .ref (ad 1)), (1, .int (x1)), (6, .int (x6))]) C d_X_count_124 rfl hl (by decide) ev11 rfl (fun ls hl => ?_)
  refine lv_iload hx hb d_X_count_125 (lv_at hl 1 rfl) ?_
  refine lv_if_eq (tgt := 142) hx hb d_X_count_127 (by decide) (fun c127 => ?_) (fun c127 => ?_)
  · have h := ite_t c127 h
    exact w_X_count_142 C n kc hk x1 v11 x6 h hW hS (lv_sub hl [2, 3, 0, 4] rfl)
  · have h := ite_f c127 h
    refine lv_lload_n hx hb d_X_count_130 rfl (lv_at hl 0 rfl) ?_
    refine lv_ldc2 hx hb hown (hts _ kl_X_72) d_X_count_131 ?_
    refine W.lcmp hx hb d_X_count_134 ?_
    refine lv_if_gt (tgt := 142) hx hb d_X_count_135 (by decide) (fun c135 => ?_) (fun c135 => ?_)
    · have h := ite_t c135 h
      exact w_X_count_142 C n kc hk x1 v11 x6 h hW hS (lv_sub hl [2, 3, 0, 4] rfl)
    · have h := ite_f c135 h
      refine lv_iconst (v := 1) hx hb d_X_count_138 (by decide) ?_
      refine lv_goto (tgt := 143) hx hb d_X_count_139 (by decide) ?_
      exact w_X_count_143 C n kc hk x1 v11 x6 (1 : Int32) h hW hS (lv_sub hl [2, 3, 0, 4] rfl)
set_option maxHeartbeats 4000000 in
set_option maxRecDepth 100000 in
theorem w_X_count_103 (C : CB p s m args c meth b_X_count "TwoLevelParser$Lexer" 7 (some (.object "TwoLevelParser$Sort")) D cA z ac) (n : Nat) (kc : Int32 → Int64 → Int32 → Int32 → HS → Option (Nat × HS)) {r : Nat} {S' : HS} (hk : ∀ (x1 : Int32) (x2 : Int64) (x5 : Int32) (x6 : Int32) (S : HS) {H : Heap} {locs : List Loc} {ls : Array Slot}, kc x1 x2 x5 x6 S = some (r, S') → HW D cA z ac E1 ad S H → va_S (zA z) s.heap H locs → lv_has ls 7 [(0, .ref (ad 1)), (1, .int (x1)), (2, .long (x2)), (5, .int (x5)), (6, .int (x6))] → GW p l e 0 s m args below meth c D cA z ac E1 ad (some (.ref (ad r))) S' H locs (F0 m 61 ls [])) (x1 : Int32) (x2 : Int64) (x6 : Int32) {S : HS} {H : Heap} {locs : List Loc} {ls : Array Slot} (h : f_X_count_b103 n kc x1 x2 x6 S = some (r, S')) (hW : HW D cA z ac E1 ad S H) (hS : va_S (zA z) s.heap H locs) (hl : lv_has ls 7 [(0, .ref (ad 1)), (1, .int (x1)), (2, .long (x2)), (6, .int (x6))]) : GW p l e 0 s m args below meth c D cA z ac E1 ad (some (.ref (ad r))) S' H locs (F0 m 103 ls []) := by
  obtain ⟨⟨hx, hb, hml, hown, hts⟩, hK, hr, hlo⟩ := id C
  unfold f_X_count_b103 at h
  refine lv_iconst (v := 0) hx hb d_X_count_103 (by decide) ?_
  exact w_X_count_104 C n kc hk x1 x2 x6 (0 : Int32) h hW hS (lv_sub hl [0, 1, 2, 3] rfl)
set_option maxHeartbeats 4000000 in
set_option maxRecDepth 100000 in
theorem w_X_count_161 (C : CB p s m args c meth b_X_count "TwoLevelParser$Lexer" 7 (some (.object "TwoLevelParser$Sort")) D cA z ac) (n : Nat) {r : Nat} {S' : HS} (x5 : Int32) (y0 : Int64) {S : HS} {H : Heap} {locs : List Loc} {ls : Array Slot} (h : f_X_count_b161 n x5 y0 S = some (r, S')) (hW : HW D cA z ac E1 ad S H) (hS : va_S (zA z) s.heap H locs) (hl : lv_has ls 7 [(0, .ref (ad 1)), (5, .int (x5))]) : GW p l e 0 s m args below meth c D cA z ac E1 ad (some (.ref (ad r))) S' H locs (F0 m 161 ls [.long (y0)]) := by
  obtain ⟨⟨hx, hb, hml, hown, hts⟩, hK, hr, hlo⟩ := id C
  unfold f_X_count_b161 at h
  obtain ⟨v12, ev12, h⟩ := lt_some h
  refine lt_l_n (lv' := [(2, .long (v12)), (0, .ref (ad 1)), (5, .int (x5))]) C d_X_count_161 rfl hl (by decide) ev12 rfl (fun ls hl => ?_)
  refine lv_aload_n hx hb d_X_count_162 rfl (lv_at hl 1 rfl) ?_
  refine lv_lload_n hx hb d_X_count_163 rfl (lv_at hl 0 rfl) ?_
  refine lv_l2i (v := v12.toInt32) hx hb d_X_count_164 rfl ?_
  obtain ⟨S13, eS13, h⟩ := lt_some h
  refine hp_i C hW hS 1 6 (hW.fx 1 rfl) rfl q_X (by decide) rfl rfl rfl (lkF C kf_X_74) eS13 d_X_count_165 (fun H locs hW hS => ?_)
  refine lv_iload hx hb d_X_count_168 (lv_at hl 2 rfl) ?_
  refine lv_if_eq (tgt := 187) hx hb d_X_count_170 (by decide) (fun c170 => ?_) (fun c170 => ?_)
  · have h := ite_t c170 h
    refine hc_so (i := 5) C hW hS (by decide) kf_X_47 d_X_count_187 ?_
    obtain ⟨hr1, hr2⟩ := Prod.mk.inj (Option.some.inj h)
    subst hr1
    subst hr2
    exact he_r C hW hS d_X_count_190
  · have h := ite_f c170 h
    refine lv_lload_n hx hb d_X_count_173 rfl (lv_at hl 0 rfl) ?_
    refine lv_ldc2 hx hb hown (hts _ kl_X_77) d_X_count_174 ?_
    refine W.lcmp hx hb d_X_count_177 ?_
    refine lv_if_gt (tgt := 187) hx hb d_X_count_178 (by decide) (fun c178 => ?_) (fun c178 => ?_)
    · have h := ite_t c178 h
      refine hc_so (i := 5) C hW hS (by decide) kf_X_47 d_X_count_187 ?_
      obtain ⟨hr1, hr2⟩ := Prod.mk.inj (Option.some.inj h)
      subst hr1
      subst hr2
      exact he_r C hW hS d_X_count_190
    · have h := ite_f c178 h
      refine hc_so (i := 3) C hW hS (by decide) kf_X_79 d_X_count_181 ?_
      refine lv_goto (tgt := 190) hx hb d_X_count_184 (by decide) ?_
      obtain ⟨hr1, hr2⟩ := Prod.mk.inj (Option.some.inj h)
      subst hr1
      subst hr2
      exact he_r C hW hS d_X_count_190
set_option maxHeartbeats 4000000 in
set_option maxRecDepth 100000 in
theorem w_X_count_151 (C : CB p s m args c meth b_X_count "TwoLevelParser$Lexer" 7 (some (.object "TwoLevelParser$Sort")) D cA z ac) (n : Nat) {r : Nat} {S' : HS} (x1 : Int32) (x2 : Int64) (x5 : Int32) {S : HS} {H : Heap} {locs : List Loc} {ls : Array Slot} (h : f_X_count_b151 n x1 x2 x5 S = some (r, S')) (hW : HW D cA z ac E1 ad S H) (hS : va_S (zA z) s.heap H locs) (hl : lv_has ls 7 [(0, .ref (ad 1)), (1, .int (x1)), (2, .long (x2)), (5, .int (x5))]) : GW p l e 0 s m args below meth c D cA z ac E1 ad (some (.ref (ad r))) S' H locs (F0 m 151 ls []) := by
  obtain ⟨⟨hx, hb, hml, hown, hts⟩, hK, hr, hlo⟩ := id C
  unfold f_X_count_b151 at h
  refine lv_iload_n hx hb d_X_count_151 rfl (lv_at hl 1 rfl) ?_
  refine lv_if_eq (tgt := 160) hx hb d_X_count_152 (by decide) (fun c152 => ?_) (fun c152 => ?_)
  · have h := ite_t c152 h
    refine lv_lload_n hx hb d_X_count_160 rfl (lv_at hl 2 rfl) ?_
    exact w_X_count_161 C n x5 x2 h hW hS (lv_sub hl [0, 3] rfl)
  · have h := ite_f c152 h
    refine lv_lload_n hx hb d_X_count_155 rfl (lv_at hl 2 rfl) ?_
    refine lv_lneg hx hb d_X_count_156 ?_
    refine lv_goto (tgt := 161) hx hb d_X_count_157 (by decide) ?_
    exact w_X_count_161 C n x5 (-x2) h hW hS (lv_sub hl [0, 3] rfl)
set_option maxHeartbeats 4000000 in
set_option maxRecDepth 100000 in
theorem w_X_count_61B (C : CB p s m args c meth b_X_count "TwoLevelParser$Lexer" 7 (some (.object "TwoLevelParser$Sort")) D cA z ac) (n : Nat) (kc : Int32 → Int64 → Int32 → Int32 → HS → Option (Nat × HS)) {r : Nat} {S' : HS} (hk : ∀ (x1 : Int32) (x2 : Int64) (x5 : Int32) (x6 : Int32) (S : HS) {H : Heap} {locs : List Loc} {ls : Array Slot}, kc x1 x2 x5 x6 S = some (r, S') → HW D cA z ac E1 ad S H → va_S (zA z) s.heap H locs → lv_has ls 7 [(0, .ref (ad 1)), (1, .int (x1)), (2, .long (x2)), (5, .int (x5)), (6, .int (x6))] → GW p l e 0 s m args below meth c D cA z ac E1 ad (some (.ref (ad r))) S' H locs (F0 m 61 ls [])) (x1 : Int32) (x2 : Int64) (x5 : Int32) (x6 : Int32) {S : HS} {H : Heap} {locs : List Loc} {ls : Array Slot} (h : f_X_count_b61B n kc x1 x2 x5 x6 S = some (r, S')) (hW : HW D cA z ac E1 ad S H) (hS : va_S (zA z) s.heap H locs) (hl : lv_has ls 7 [(0, .ref (ad 1)), (1, .int (x1)), (2, .long (x2)), (5, .int (x5)), (6, .int (x6))]) : GW p l e 0 s m args below meth c D cA z ac E1 ad (some (.ref (ad r))) S' H locs (F0 m 61 ls []) := by
  obtain ⟨⟨hx, hb, hml, hown, hts⟩, hK, hr, hlo⟩ := id C
  unfold f_X_count_b61B at h
  refine lv_iload hx hb d_X_count_61 (lv_at hl 4 rfl) ?_
  refine lv_aload_n hx hb d_X_count_63 rfl (lv_at hl 0 rfl) ?_
  refine hg_i C hW 1 2 (hW.fx 1 rfl) rfl q_X (by decide) rfl (lkF C kf_X_15) d_X_count_64 ?_
  refine lv_icmp_ge (tgt := 151) hx hb d_X_count_67 (by decide) (fun c67 => ?_) (fun c67 => ?_)
  · have h := ite_t c67 h
    exact w_X_count_151 C n x1 x2 x5 h hW hS (lv_sub hl [0, 1, 2, 3] rfl)
  · have h := ite_f c67 h
    refine lv_iload hx hb d_X_count_70 (lv_at hl 3 rfl) ?_
    refine lv_if_eq (tgt := 151) hx hb d_X_count_72 (by decide) (fun c72 => ?_) (fun c72 => ?_)
    · have h := ite_t c72 h
      exact w_X_count_151 C n x1 x2 x5 h hW hS (lv_sub hl [0, 1, 2, 3] rfl)
    · have h := ite_f c72 h
      refine lv_aload_n hx hb d_X_count_75 rfl (lv_at hl 0 rfl) ?_
      refine hg_r (j := 2) C hW 1 0 (hW.fx 1 rfl) rfl q_X (by decide) rfl (hW.fn (E := E1) (i := 1) (k := 0) rfl) (lkF C kf_X_9) d_X_count_76 ?_
      refine lv_iload hx hb d_X_count_79 (lv_at hl 4 rfl) ?_
      obtain ⟨g7, h⟩ := gd_some h
      refine ha_b C hW 2 (hW.fx 2 rfl) rfl rfl g7 d_X_count_81 ?_
      refine lv_bipush (v := 48) hx hb d_X_count_82 (by decide) ?_
      refine lv_icmp_lt (tgt := 103) hx hb d_X_count_84 (by decide) (fun c84 => ?_) (fun c84 => ?_)
      · have h := ite_t c84 h
        exact w_X_count_103 C n kc hk x1 x2 x6 h hW hS (lv_sub hl [0, 1, 2, 4] rfl)
      · have h := ite_f c84 h
        refine lv_aload_n hx hb d_X_count_87 rfl (lv_at hl 0 rfl) ?_
        refine hg_r (j := 2) C hW 1 0 (hW.fx 1 rfl) rfl q_X (by decide) rfl (hW.fn (E := E1) (i := 1) (k := 0) rfl) (lkF C kf_X_9) d_X_count_88 ?_
        refine lv_iload hx hb d_X_count_91 (lv_at hl 4 rfl) ?_
        obtain ⟨g8, h⟩ := gd_some h
        refine ha_b C hW 2 (hW.fx 2 rfl) rfl rfl g8 d_X_count_93 ?_
        refine lv_bipush (v := 57) hx hb d_X_count_94 (by decide) ?_
        refine lv_icmp_gt (tgt := 103) hx hb d_X_count_96 (by decide) (fun c96 => ?_) (fun c96 => ?_)
        · have h := ite_t c96 h
          exact w_X_count_103 C n kc hk x1 x2 x6 h hW hS (lv_sub hl [0, 1, 2, 4] rfl)
        · have h := ite_f c96 h
          refine lv_iconst (v := 1) hx hb d_X_count_99 (by decide) ?_
          refine lv_goto (tgt := 104) hx hb d_X_count_100 (by decide) ?_
          exact w_X_count_104 C n kc hk x1 x2 x6 (1 : Int32) h hW hS (lv_sub hl [0, 1, 2, 4] rfl)
set_option maxHeartbeats 4000000 in
set_option maxRecDepth 100000 in
theorem w_X_count_61 (C : CB p s m args c meth b_X_count "TwoLevelParser$Lexer" 7 (some (.object "TwoLevelParser$Sort")) D cA z ac) (n : Nat) (k : Nat) {r : Nat} {S' : HS} : ∀ (x1 : Int32) (x2 : Int64) (x5 : Int32) (x6 : Int32) {S : HS} {H : Heap} {locs : List Loc} {ls : Array Slot}, f_X_count_b61 n k x1 x2 x5 x6 S = some (r, S') → HW D cA z ac E1 ad S H → va_S (zA z) s.heap H locs → lv_has ls 7 [(0, .ref (ad 1)), (1, .int (x1)), (2, .long (x2)), (5, .int (x5)), (6, .int (x6))] → GW p l e 0 s m args below meth c D cA z ac E1 ad (some (.ref (ad r))) S' H locs (F0 m 61 ls []) := by
  induction k with
  | zero => intro x1 x2 x5 x6 S H locs ls h; cases h
  | succ k ih => intro x1 x2 x5 x6 S H locs ls h hW hS hl; exact w_X_count_61B C n (f_X_count_b61 n k) (fun x1 x2 x5 x6 S H locs ls h hW hS hl => ih x1 x2 x5 x6 h hW hS hl) x1 x2 x5 x6 h hW hS hl
set_option maxHeartbeats 4000000 in
set_option maxRecDepth 100000 in
theorem w_X_count_55 (C : CB p s m args c meth b_X_count "TwoLevelParser$Lexer" 7 (some (.object "TwoLevelParser$Sort")) D cA z ac) (n : Nat) {r : Nat} {S' : HS} (x1 : Int32) (x2 : Int64) (x4 : Int32) (y0 : Int32) {S : HS} {H : Heap} {locs : List Loc} {ls : Array Slot} (h : f_X_count_b55 n x1 x2 x4 y0 S = some (r, S')) (hW : HW D cA z ac E1 ad S H) (hS : va_S (zA z) s.heap H locs) (hl : lv_has ls 7 [(0, .ref (ad 1)), (1, .int (x1)), (2, .long (x2)), (4, .int (x4))]) : GW p l e 0 s m args below meth c D cA z ac E1 ad (some (.ref (ad r))) S' H locs (F0 m 55 ls [.int (y0)]) := by
  obtain ⟨⟨hx, hb, hml, hown, hts⟩, hK, hr, hlo⟩ := id C
  unfold f_X_count_b55 at h
  obtain ⟨v5, ev5, h⟩ := lt_some h
  refine lt_i (lv' := [(5, .int (v5)), (0, .ref (ad 1)), (1, .int (x1)), (2, .long (x2)), (4, .int (x4))]) C d_X_count_55 hl (by decide) ev5 rfl (fun ls hl => ?_)
  refine lv_iload hx hb d_X_count_57 (lv_at hl 4 rfl) ?_
  obtain ⟨v6, ev6, h⟩ := lt_some h
  refine lt_i (lv' := [(6, .int (v6)), (5, .int (v5)), (0, .ref (ad 1)), (1, .int (x1)), (2, .long (x2)), (4, .int (x4))]) C d_X_count_59 hl (by decide) ev6 rfl (fun ls hl => ?_)
  exact w_X_count_61 C n n x1 x2 v5 v6 h hW hS (lv_sub hl [2, 3, 4, 1, 0] rfl)
set_option maxHeartbeats 4000000 in
set_option maxRecDepth 100000 in
theorem w_X_count_39 (C : CB p s m args c meth b_X_count "TwoLevelParser$Lexer" 7 (some (.object "TwoLevelParser$Sort")) D cA z ac) (n : Nat) {r : Nat} {S' : HS} (x1 : Int32) (x2 : Int64) (y0 : Int32) {S : HS} {H : Heap} {locs : List Loc} {ls : Array Slot} (h : f_X_count_b39 n x1 x2 y0 S = some (r, S')) (hW : HW D cA z ac E1 ad S H) (hS : va_S (zA z) s.heap H locs) (hl : lv_has ls 7 [(0, .ref (ad 1)), (1, .int (x1)), (2, .long (x2))]) : GW p l e 0 s m args below meth c D cA z ac E1 ad (some (.ref (ad r))) S' H locs (F0 m 39 ls [.int (y0)]) := by
  obtain ⟨⟨hx, hb, hml, hown, hts⟩, hK, hr, hlo⟩ := id C
  unfold f_X_count_b39 at h
  obtain ⟨v4, ev4, h⟩ := lt_some h
  refine lt_i (lv' := [(4, .int (v4)), (0, .ref (ad 1)), (1, .int (x1)), (2, .long (x2))]) C d_X_count_39 hl (by decide) ev4 rfl (fun ls hl => ?_)
  refine lv_iload hx hb d_X_count_41 (lv_at hl 0 rfl) ?_
  refine lv_aload_n hx hb d_X_count_43 rfl (lv_at hl 1 rfl) ?_
  refine hg_i C hW 1 2 (hW.fx 1 rfl) rfl q_X (by decide) rfl (lkF C kf_X_15) d_X_count_44 ?_
  refine lv_icmp_ge (tgt := 54) hx hb d_X_count_47 (by decide) (fun c47 => ?_) (fun c47 => ?_)
  · have h := ite_t c47 h
    refine lv_iconst (v := 0) hx hb d_X_count_54 (by decide) ?_
    exact w_X_count_55 C n x1 x2 v4 (0 : Int32) h hW hS (lv_sub hl [1, 2, 3, 0] rfl)
  · have h := ite_f c47 h
    refine lv_iconst (v := 1) hx hb d_X_count_50 (by decide) ?_
    refine lv_goto (tgt := 55) hx hb d_X_count_51 (by decide) ?_
    exact w_X_count_55 C n x1 x2 v4 (1 : Int32) h hW hS (lv_sub hl [1, 2, 3, 0] rfl)
set_option maxHeartbeats 4000000 in
set_option maxRecDepth 100000 in
theorem w_X_count_19 (C : CB p s m args c meth b_X_count "TwoLevelParser$Lexer" 7 (some (.object "TwoLevelParser$Sort")) D cA z ac) (n : Nat) {r : Nat} {S' : HS} (y0 : Int32) {S : HS} {H : Heap} {locs : List Loc} {ls : Array Slot} (h : f_X_count_b19 n y0 S = some (r, S')) (hW : HW D cA z ac E1 ad S H) (hS : va_S (zA z) s.heap H locs) (hl : lv_has ls 7 [(0, .ref (ad 1))]) : GW p l e 0 s m args below meth c D cA z ac E1 ad (some (.ref (ad r))) S' H locs (F0 m 19 ls [.int (y0)]) := by
  obtain ⟨⟨hx, hb, hml, hown, hts⟩, hK, hr, hlo⟩ := id C
  unfold f_X_count_b19 at h
  obtain ⟨v2, ev2, h⟩ := lt_some h
  refine lt_i_n (lv' := [(1, .int (v2)), (0, .ref (ad 1))]) C d_X_count_19 rfl hl (by decide) ev2 rfl (fun ls hl => ?_)
  refine lv_lconst (v := 0) hx hb d_X_count_20 (by decide) ?_
  obtain ⟨v3, ev3, h⟩ := lt_some h
  refine lt_l_n (lv' := [(2, .long (v3)), (1, .int (v2)), (0, .ref (ad 1))]) C d_X_count_21 rfl hl (by decide) ev3 rfl (fun ls hl => ?_)
  refine lv_iload_n hx hb d_X_count_22 rfl (lv_at hl 1 rfl) ?_
  refine lv_if_eq (tgt := 35) hx hb d_X_count_23 (by decide) (fun c23 => ?_) (fun c23 => ?_)
  · have h := ite_t c23 h
    refine lv_aload_n hx hb d_X_count_35 rfl (lv_at hl 2 rfl) ?_
    refine hg_i C hW 1 4 (hW.fx 1 rfl) rfl q_X (by decide) rfl (lkF C kf_X_25) d_X_count_36 ?_
    exact w_X_count_39 C n v2 v3 (gF S 1 4) h hW hS (lv_sub hl [2, 1, 0] rfl)
  · have h := ite_f c23 h
    refine lv_aload_n hx hb d_X_count_26 rfl (lv_at hl 2 rfl) ?_
    refine hg_i C hW 1 4 (hW.fx 1 rfl) rfl q_X (by decide) rfl (lkF C kf_X_25) d_X_count_27 ?_
    refine lv_iconst (v := 1) hx hb d_X_count_30 (by decide) ?_
    refine lv_iadd hx hb d_X_count_31 ?_
    refine lv_goto (tgt := 39) hx hb d_X_count_32 (by decide) ?_
    exact w_X_count_39 C n v2 v3 ((gF S 1 4) + (1 : Int32)) h hW hS (lv_sub hl [2, 1, 0] rfl)
set_option maxHeartbeats 4000000 in
set_option maxRecDepth 100000 in
theorem s_X_count (n : Nat) {S : HS} {r : Nat} {S' : HS} (h : f_X_count n S = some (r, S')) : Met l y_X_count (.code y_X_count b_X_count 7 (some (.object "TwoLevelParser$Sort")) :: lw_g) (rmD 0 0 0) (PcH D cA z ac E1 ad [.ref (ad 1)] S) (QN D cA z ac E1 ad (some (.ref (ad r))) S') 0 0 (zA z) := by
  refine Met.ofH (own := "TwoLevelParser$Lexer") (by decide) rfl (Nat.le_of_ble_eq_true rfl) ?_
  intro p e s m args below meth c H ls C hW hS hl
  have hl : lv_has ls 7 [(0, .ref (ad 1))] := hl
  obtain ⟨⟨hx, hb, hml, hown, hts⟩, hK, hr, hlo⟩ := id C
  unfold f_X_count at h
  refine lv_aload_n hx hb d_X_count_0 rfl (lv_at hl 0 rfl) ?_
  refine hg_r (j := 2) C hW 1 0 (hW.fx 1 rfl) rfl q_X (by decide) rfl (hW.fn (E := E1) (i := 1) (k := 0) rfl) (lkF C kf_X_9) d_X_count_1 ?_
  refine lv_aload_n hx hb d_X_count_4 rfl (lv_at hl 0 rfl) ?_
  refine hg_i C hW 1 4 (hW.fx 1 rfl) rfl q_X (by decide) rfl (lkF C kf_X_25) d_X_count_5 ?_
  obtain ⟨g1, h⟩ := gd_some h
  refine ha_b C hW 2 (hW.fx 2 rfl) rfl rfl g1 d_X_count_8 ?_
  refine lv_bipush (v := 45) hx hb d_X_count_9 (by decide) ?_
  refine lv_icmp_ne (tgt := 18) hx hb d_X_count_11 (by decide) (fun c11 => ?_) (fun c11 => ?_)
  · have h := ite_f c11 h
    refine lv_iconst (v := 0) hx hb d_X_count_18 (by decide) ?_
    exact w_X_count_19 C n (0 : Int32) h hW hS (lv_sub hl [0] rfl)
  · have h := ite_t c11 h
    refine lv_iconst (v := 1) hx hb d_X_count_14 (by decide) ?_
    refine lv_goto (tgt := 19) hx hb d_X_count_15 (by decide) ?_
    exact w_X_count_19 C n (1 : Int32) h hW hS (lv_sub hl [0] rfl)
end WK
def f_X_next_b39 (n : Nat) (kc : HS → Option HS) (S : HS) : Option HS :=
  lt (sF S 1 2 ((gF S 1 2) + (1 : Int32))) fun S7 =>
  kc S7
def f_X_next_b117 (n : Nat) (y0 : Nat) (S : HS) : Option HS :=
  gd (isSo y0) <|
  lt (sX S 1 3 (some y0)) fun S11 =>
  lt (sF S11 1 2 ((gF S11 1 2) + (1 : Int32))) fun S13 =>
  some S13
def f_X_next_b101 (n : Nat) (x1 : Int32) (S : HS) : Option HS :=
  (if x1 = (40 : Int32) then
  f_X_next_b117 n 500 S
  else
  f_X_next_b117 n 501 S)
def f_X_next_b205 (n : Nat) (y0 : Nat) (S : HS) : Option HS :=
  gd (isSo y0) <|
  lt (sX S 1 3 (some y0)) fun S18 =>
  some S18
def f_X_next_b170 (n : Nat) (x1 : Int32) (S : HS) : Option HS :=
  (if (gF S 1 2) = (gF S 1 4) then
  f_X_next_b205 n 505 S
  else
  (if x1 < (97 : Int32) then
  ob2 (f_X_count n S) fun r15 S14 =>
  f_X_next_b205 n r15 S14
  else
  ob2 (f_X_spell n S) fun r17 S16 =>
  f_X_next_b205 n r17 S16))
def f_X_next_b131B (n : Nat) (kc : Int32 → HS → Option HS) (x1 : Int32) (S : HS) : Option HS :=
  (if (gF S 1 1) ≤ (gF S 1 2) then
  f_X_next_b170 n x1 S
  else
  gd (inR (gF S 1 2) 8192) <|
  ob (f_X_isOf (gF S 2 (gF S 1 2).toNatClampNeg)) fun r9 =>
  (if r9 = 0 then
  f_X_next_b170 n x1 S
  else
  lt (sF S 1 2 ((gF S 1 2) + (1 : Int32))) fun S10 =>
  kc x1 S10))
def f_X_next_b131 (n : Nat) (k : Nat) : Int32 → HS → Option HS := lpF (fun _ _ => none) (f_X_next_b131B n) k
def f_X_next_b52 (n : Nat) (S : HS) : Option HS :=
  lt (sF S 1 4 (gF S 1 2)) fun S3 =>
  (if (gF S3 1 2) = (gF S3 1 1) then
  lt (sX S3 1 3 (some 504)) fun S6 =>
  some S6
  else
  gd (inR (gF S3 1 2) 8192) <|
  lt (gF S3 2 (gF S3 1 2).toNatClampNeg) fun v5 =>
  (if v5 = (40 : Int32) then
  f_X_next_b101 n v5 S3
  else
  (if v5 = (41 : Int32) then
  f_X_next_b101 n v5 S3
  else
  f_X_next_b131 n n v5 S3)))
def f_X_next_b0B (n : Nat) (kc : HS → Option HS) (S : HS) : Option HS :=
  (if (gF S 1 1) ≤ (gF S 1 2) then
  f_X_next_b52 n S
  else
  gd (inR (gF S 1 2) 8192) <|
  (if (gF S 2 (gF S 1 2).toNatClampNeg) = (32 : Int32) then
  f_X_next_b39 n kc S
  else
  gd (inR (gF S 1 2) 8192) <|
  (if (gF S 2 (gF S 1 2).toNatClampNeg) = (10 : Int32) then
  f_X_next_b39 n kc S
  else
  f_X_next_b52 n S)))
def f_X_next_b0 (n : Nat) (k : Nat) : HS → Option HS := lpF (fun _ => none) (f_X_next_b0B n) k
def f_X_next (n : Nat) (S : HS) : Option HS :=
  f_X_next_b0 n n S
section WK
variable {p : Program} {l : Launch} {e : Env} {s : State} {m : MethodId} {args : Array Value} {below : List Frame} {meth : Method} {c : Code} {D : va_G} {cA : Nat → ClassId} {z : Nat} {ac : Nat → Nat} {ad : Nat → Nat}
set_option maxHeartbeats 4000000 in
set_option maxRecDepth 100000 in
theorem w_X_next_39 (C : CB p s m args c meth b_X_next "TwoLevelParser$Lexer" 2 none D cA z ac) (n : Nat) (kc : HS → Option HS) {S' : HS} (hk : ∀ (S : HS) {H : Heap} {locs : List Loc} {ls : Array Slot}, kc S = some S' → HW D cA z ac E1 ad S H → va_S (zA z) s.heap H locs → lv_has ls 2 [(0, .ref (ad 1))] → GW p l e 1 s m args below meth c D cA z ac E1 ad none S' H locs (F0 m 0 ls [])) {S : HS} {H : Heap} {locs : List Loc} {ls : Array Slot} (h : f_X_next_b39 n kc S = some S') (hW : HW D cA z ac E1 ad S H) (hS : va_S (zA z) s.heap H locs) (hl : lv_has ls 2 [(0, .ref (ad 1))]) : GW p l e 1 s m args below meth c D cA z ac E1 ad none S' H locs (F0 m 39 ls []) := by
  obtain ⟨⟨hx, hb, hml, hown, hts⟩, hK, hr, hlo⟩ := id C
  unfold f_X_next_b39 at h
  refine lv_aload_n hx hb d_X_next_39 rfl (lv_at hl 0 rfl) ?_
  refine lv_dup hx hb d_X_next_40 rfl ?_
  refine hg_i C hW 1 2 (hW.fx 1 rfl) rfl q_X (by decide) rfl (lkF C kf_X_15) d_X_next_41 ?_
  refine lv_iconst (v := 1) hx hb d_X_next_44 (by decide) ?_
  refine lv_iadd hx hb d_X_next_45 ?_
  obtain ⟨S7, eS7, h⟩ := lt_some h
  refine hp_i C hW hS 1 2 (hW.fx 1 rfl) rfl q_X (by decide) rfl rfl rfl (lkF C kf_X_15) eS7 d_X_next_46 (fun H locs hW hS => ?_)
  refine lv_goto (tgt := 0) hx hb d_X_next_49 (by decide) ?_
  exact hk _ h hW hS (lv_sub hl [0] rfl)
set_option maxHeartbeats 4000000 in
set_option maxRecDepth 100000 in
theorem w_X_next_117 (C : CB p s m args c meth b_X_next "TwoLevelParser$Lexer" 2 none D cA z ac) (n : Nat) {S' : HS} (y0 : Nat) {S : HS} {H : Heap} {locs : List Loc} {ls : Array Slot} (h : f_X_next_b117 n y0 S = some S') (hW : HW D cA z ac E1 ad S H) (hS : va_S (zA z) s.heap H locs) (hl : lv_has ls 2 [(0, .ref (ad 1))]) : GW p l e 1 s m args below meth c D cA z ac E1 ad none S' H locs (F0 m 117 ls [.ref (ad y0), .ref (ad 1)]) := by
  obtain ⟨⟨hx, hb, hml, hown, hts⟩, hK, hr, hlo⟩ := id C
  unfold f_X_next_b117 at h
  obtain ⟨g12, h⟩ := gd_some h
  obtain ⟨S11, eS11, h⟩ := lt_some h
  refine hp_r (j := y0) C hW hS 1 3 (hW.fx 1 rfl) rfl q_X (by decide) rfl rfl rfl (lkF C kf_X_34) (Or.inr ⟨by omega, by omega⟩) rfl eS11 d_X_next_117 (fun H locs hW hS => ?_)
  refine lv_aload_n hx hb d_X_next_120 rfl (lv_at hl 0 rfl) ?_
  refine lv_dup hx hb d_X_next_121 rfl ?_
  refine hg_i C hW 1 2 (hW.fx 1 rfl) rfl q_X (by decide) rfl (lkF C kf_X_15) d_X_next_122 ?_
  refine lv_iconst (v := 1) hx hb d_X_next_125 (by decide) ?_
  refine lv_iadd hx hb d_X_next_126 ?_
  obtain ⟨S13, eS13, h⟩ := lt_some h
  refine hp_i C hW hS 1 2 (hW.fx 1 rfl) rfl q_X (by decide) rfl rfl rfl (lkF C kf_X_15) eS13 d_X_next_127 (fun H locs hW hS => ?_)
  have h := Option.some.inj h
  subst h
  exact he_v C hW hS d_X_next_130
set_option maxHeartbeats 4000000 in
set_option maxRecDepth 100000 in
theorem w_X_next_101 (C : CB p s m args c meth b_X_next "TwoLevelParser$Lexer" 2 none D cA z ac) (n : Nat) {S' : HS} (x1 : Int32) {S : HS} {H : Heap} {locs : List Loc} {ls : Array Slot} (h : f_X_next_b101 n x1 S = some S') (hW : HW D cA z ac E1 ad S H) (hS : va_S (zA z) s.heap H locs) (hl : lv_has ls 2 [(0, .ref (ad 1)), (1, .int (x1))]) : GW p l e 1 s m args below meth c D cA z ac E1 ad none S' H locs (F0 m 101 ls []) := by
  obtain ⟨⟨hx, hb, hml, hown, hts⟩, hK, hr, hlo⟩ := id C
  unfold f_X_next_b101 at h
  refine lv_aload_n hx hb d_X_next_101 rfl (lv_at hl 0 rfl) ?_
  refine lv_iload_n hx hb d_X_next_102 rfl (lv_at hl 1 rfl) ?_
  refine lv_bipush (v := 40) hx hb d_X_next_103 (by decide) ?_
  refine lv_icmp_ne (tgt := 114) hx hb d_X_next_105 (by decide) (fun c105 => ?_) (fun c105 => ?_)
  · have h := ite_f c105 h
    refine hc_so (i := 1) C hW hS (by decide) kf_X_40 d_X_next_114 ?_
    exact w_X_next_117 C n 501 h hW hS (lv_sub hl [0] rfl)
  · have h := ite_t c105 h
    refine hc_so (i := 0) C hW hS (by decide) kf_X_37 d_X_next_108 ?_
    refine lv_goto (tgt := 117) hx hb d_X_next_111 (by decide) ?_
    exact w_X_next_117 C n 500 h hW hS (lv_sub hl [0] rfl)
set_option maxHeartbeats 4000000 in
set_option maxRecDepth 100000 in
theorem w_X_next_205 (C : CB p s m args c meth b_X_next "TwoLevelParser$Lexer" 2 none D cA z ac) (n : Nat) {S' : HS} (y0 : Nat) {S : HS} {H : Heap} {locs : List Loc} {ls : Array Slot} (h : f_X_next_b205 n y0 S = some S') (hW : HW D cA z ac E1 ad S H) (hS : va_S (zA z) s.heap H locs) (hl : lv_has ls 2 []) : GW p l e 1 s m args below meth c D cA z ac E1 ad none S' H locs (F0 m 205 ls [.ref (ad y0), .ref (ad 1)]) := by
  obtain ⟨⟨hx, hb, hml, hown, hts⟩, hK, hr, hlo⟩ := id C
  unfold f_X_next_b205 at h
  obtain ⟨g19, h⟩ := gd_some h
  obtain ⟨S18, eS18, h⟩ := lt_some h
  refine hp_r (j := y0) C hW hS 1 3 (hW.fx 1 rfl) rfl q_X (by decide) rfl rfl rfl (lkF C kf_X_34) (Or.inr ⟨by omega, by omega⟩) rfl eS18 d_X_next_205 (fun H locs hW hS => ?_)
  have h := Option.some.inj h
  subst h
  exact he_v C hW hS d_X_next_208
set_option maxHeartbeats 4000000 in
set_option maxRecDepth 100000 in
theorem w_X_next_170 (C : CB p s m args c meth b_X_next "TwoLevelParser$Lexer" 2 none D cA z ac) (n : Nat) {S' : HS} (x1 : Int32) {S : HS} {H : Heap} {locs : List Loc} {ls : Array Slot} (h : f_X_next_b170 n x1 S = some S') (hW : HW D cA z ac E1 ad S H) (hS : va_S (zA z) s.heap H locs) (hl : lv_has ls 2 [(0, .ref (ad 1)), (1, .int (x1))]) : GW p l e 1 s m args below meth c D cA z ac E1 ad none S' H locs (F0 m 170 ls []) := by
  obtain ⟨⟨hx, hb, hml, hown, hts⟩, hK, hr, hlo⟩ := id C
  unfold f_X_next_b170 at h
  refine lv_aload_n hx hb d_X_next_170 rfl (lv_at hl 0 rfl) ?_
  refine lv_aload_n hx hb d_X_next_171 rfl (lv_at hl 0 rfl) ?_
  refine hg_i C hW 1 2 (hW.fx 1 rfl) rfl q_X (by decide) rfl (lkF C kf_X_15) d_X_next_172 ?_
  refine lv_aload_n hx hb d_X_next_175 rfl (lv_at hl 0 rfl) ?_
  refine hg_i C hW 1 4 (hW.fx 1 rfl) rfl q_X (by decide) rfl (lkF C kf_X_25) d_X_next_176 ?_
  refine lv_icmp_ne (tgt := 188) hx hb d_X_next_179 (by decide) (fun c179 => ?_) (fun c179 => ?_)
  · have h := ite_f c179 h
    refine lv_iload_n hx hb d_X_next_188 rfl (lv_at hl 1 rfl) ?_
    refine lv_bipush (v := 97) hx hb d_X_next_189 (by decide) ?_
    refine lv_icmp_lt (tgt := 201) hx hb d_X_next_191 (by decide) (fun c191 => ?_) (fun c191 => ?_)
    · have h := ite_t c191 h
      refine lv_aload_n hx hb d_X_next_201 rfl (lv_at hl 0 rfl) ?_
      obtain ⟨r15, S14, eS14, h⟩ := ob2_some h
      refine hx_V (i := 1) (As := []) (rest := [.ref (ad 1)]) C hW hS (s_X_count n eS14) km_X_54 kv_X_count ke_X_count kn_X kw_X_count kd_X_count (hW.fx 1 rfl) rfl q_X rfl ⟨by decide, by decide⟩ ⟨Nat.zero_le _, Nat.zero_le _⟩ rfl hl.1 rfl (Nat.le_of_ble_eq_true rfl) d_X_next_202 (fun H locs hW hS => ?_)
      exact w_X_next_205 C n r15 h hW hS (lv_sub hl [] rfl)
    · have h := ite_f c191 h
      refine lv_aload_n hx hb d_X_next_194 rfl (lv_at hl 0 rfl) ?_
      obtain ⟨r17, S16, eS16, h⟩ := ob2_some h
      refine hx_V (i := 1) (As := []) (rest := [.ref (ad 1)]) C hW hS (s_X_spell n eS16) km_X_50 kv_X_spell ke_X_spell kn_X kw_X_spell kd_X_spell (hW.fx 1 rfl) rfl q_X rfl ⟨by decide, by decide⟩ ⟨Nat.zero_le _, Nat.zero_le _⟩ rfl hl.1 rfl (Nat.le_of_ble_eq_true rfl) d_X_next_195 (fun H locs hW hS => ?_)
      refine lv_goto (tgt := 205) hx hb d_X_next_198 (by decide) ?_
      exact w_X_next_205 C n r17 h hW hS (lv_sub hl [] rfl)
  · have h := ite_t c179 h
    refine hc_so (i := 5) C hW hS (by decide) kf_X_47 d_X_next_182 ?_
    refine lv_goto (tgt := 205) hx hb d_X_next_185 (by decide) ?_
    exact w_X_next_205 C n 505 h hW hS (lv_sub hl [] rfl)
set_option maxHeartbeats 4000000 in
set_option maxRecDepth 100000 in
theorem w_X_next_131B (C : CB p s m args c meth b_X_next "TwoLevelParser$Lexer" 2 none D cA z ac) (n : Nat) (kc : Int32 → HS → Option HS) {S' : HS} (hk : ∀ (x1 : Int32) (S : HS) {H : Heap} {locs : List Loc} {ls : Array Slot}, kc x1 S = some S' → HW D cA z ac E1 ad S H → va_S (zA z) s.heap H locs → lv_has ls 2 [(0, .ref (ad 1)), (1, .int (x1))] → GW p l e 1 s m args below meth c D cA z ac E1 ad none S' H locs (F0 m 131 ls [])) (x1 : Int32) {S : HS} {H : Heap} {locs : List Loc} {ls : Array Slot} (h : f_X_next_b131B n kc x1 S = some S') (hW : HW D cA z ac E1 ad S H) (hS : va_S (zA z) s.heap H locs) (hl : lv_has ls 2 [(0, .ref (ad 1)), (1, .int (x1))]) : GW p l e 1 s m args below meth c D cA z ac E1 ad none S' H locs (F0 m 131 ls []) := by
  obtain ⟨⟨hx, hb, hml, hown, hts⟩, hK, hr, hlo⟩ := id C
  unfold f_X_next_b131B at h
  refine lv_aload_n hx hb d_X_next_131 rfl (lv_at hl 0 rfl) ?_
  refine hg_i C hW 1 2 (hW.fx 1 rfl) rfl q_X (by decide) rfl (lkF C kf_X_15) d_X_next_132 ?_
  refine lv_aload_n hx hb d_X_next_135 rfl (lv_at hl 0 rfl) ?_
  refine hg_i C hW 1 1 (hW.fx 1 rfl) rfl q_X (by decide) rfl (lkF C kf_X_22) d_X_next_136 ?_
  refine lv_icmp_ge (tgt := 170) hx hb d_X_next_139 (by decide) (fun c139 => ?_) (fun c139 => ?_)
  · have h := ite_t c139 h
    exact w_X_next_170 C n x1 h hW hS (lv_sub hl [0, 1] rfl)
  · have h := ite_f c139 h
    refine lv_aload_n hx hb d_X_next_142 rfl (lv_at hl 0 rfl) ?_
    refine hg_r (j := 2) C hW 1 0 (hW.fx 1 rfl) rfl q_X (by decide) rfl (hW.fn (E := E1) (i := 1) (k := 0) rfl) (lkF C kf_X_9) d_X_next_143 ?_
    refine lv_aload_n hx hb d_X_next_146 rfl (lv_at hl 0 rfl) ?_
    refine hg_i C hW 1 2 (hW.fx 1 rfl) rfl q_X (by decide) rfl (lkF C kf_X_15) d_X_next_147 ?_
    obtain ⟨g8, h⟩ := gd_some h
    refine ha_b C hW 2 (hW.fx 2 rfl) rfl rfl g8 d_X_next_150 ?_
    obtain ⟨r9, er9, h⟩ := ob_some h
    refine hx_S (As := [.int ((gF S 2 (gF S 1 2).toNatClampNeg))]) (rest := []) C hW hS (s_X_isOf (gF S 2 (gF S 1 2).toNatClampNeg) er9) km_X_43 kv_X_isOf kn_X kw_X_isOf kd_X_isOf ⟨by decide, by decide⟩ ⟨Nat.zero_le _, Nat.zero_le _⟩ rfl hl.1 rfl (Nat.le_of_ble_eq_true rfl) d_X_next_151 (fun H locs hW hS => ?_)
    refine lv_if_eq (tgt := 170) hx hb d_X_next_154 (by decide) (fun c154 => ?_) (fun c154 => ?_)
    · have h := ite_t c154 h
      exact w_X_next_170 C n x1 h hW hS (lv_sub hl [0, 1] rfl)
    · have h := ite_f c154 h
      refine lv_aload_n hx hb d_X_next_157 rfl (lv_at hl 0 rfl) ?_
      refine lv_dup hx hb d_X_next_158 rfl ?_
      refine hg_i C hW 1 2 (hW.fx 1 rfl) rfl q_X (by decide) rfl (lkF C kf_X_15) d_X_next_159 ?_
      refine lv_iconst (v := 1) hx hb d_X_next_162 (by decide) ?_
      refine lv_iadd hx hb d_X_next_163 ?_
      obtain ⟨S10, eS10, h⟩ := lt_some h
      refine hp_i C hW hS 1 2 (hW.fx 1 rfl) rfl q_X (by decide) rfl rfl rfl (lkF C kf_X_15) eS10 d_X_next_164 (fun H locs hW hS => ?_)
      refine lv_goto (tgt := 131) hx hb d_X_next_167 (by decide) ?_
      exact hk _ _ h hW hS (lv_sub hl [0, 1] rfl)
set_option maxHeartbeats 4000000 in
set_option maxRecDepth 100000 in
theorem w_X_next_131 (C : CB p s m args c meth b_X_next "TwoLevelParser$Lexer" 2 none D cA z ac) (n : Nat) (k : Nat) {S' : HS} : ∀ (x1 : Int32) {S : HS} {H : Heap} {locs : List Loc} {ls : Array Slot}, f_X_next_b131 n k x1 S = some S' → HW D cA z ac E1 ad S H → va_S (zA z) s.heap H locs → lv_has ls 2 [(0, .ref (ad 1)), (1, .int (x1))] → GW p l e 1 s m args below meth c D cA z ac E1 ad none S' H locs (F0 m 131 ls []) := by
  induction k with
  | zero => intro x1 S H locs ls h; cases h
  | succ k ih => intro x1 S H locs ls h hW hS hl; exact w_X_next_131B C n (f_X_next_b131 n k) (fun x1 S H locs ls h hW hS hl => ih x1 h hW hS hl) x1 h hW hS hl
set_option maxHeartbeats 4000000 in
set_option maxRecDepth 100000 in
theorem w_X_next_52 (C : CB p s m args c meth b_X_next "TwoLevelParser$Lexer" 2 none D cA z ac) (n : Nat) {S' : HS} {S : HS} {H : Heap} {locs : List Loc} {ls : Array Slot} (h : f_X_next_b52 n S = some S') (hW : HW D cA z ac E1 ad S H) (hS : va_S (zA z) s.heap H locs) (hl : lv_has ls 2 [(0, .ref (ad 1))]) : GW p l e 1 s m args below meth c D cA z ac E1 ad none S' H locs (F0 m 52 ls []) := by
  obtain ⟨⟨hx, hb, hml, hown, hts⟩, hK, hr, hlo⟩ := id C
  unfold f_X_next_b52 at h
  refine lv_aload_n hx hb d_X_next_52 rfl (lv_at hl 0 rfl) ?_
  refine lv_aload_n hx hb d_X_next_53 rfl (lv_at hl 0 rfl) ?_
  refine hg_i C hW 1 2 (hW.fx 1 rfl) rfl q_X (by decide) rfl (lkF C kf_X_15) d_X_next_54 ?_
  obtain ⟨S3, eS3, h⟩ := lt_some h
  refine hp_i C hW hS 1 4 (hW.fx 1 rfl) rfl q_X (by decide) rfl rfl rfl (lkF C kf_X_25) eS3 d_X_next_57 (fun H locs hW hS => ?_)
  refine lv_aload_n hx hb d_X_next_60 rfl (lv_at hl 0 rfl) ?_
  refine hg_i C hW 1 2 (hW.fx 1 rfl) rfl q_X (by decide) rfl (lkF C kf_X_15) d_X_next_61 ?_
  refine lv_aload_n hx hb d_X_next_64 rfl (lv_at hl 0 rfl) ?_
  refine hg_i C hW 1 1 (hW.fx 1 rfl) rfl q_X (by decide) rfl (lkF C kf_X_22) d_X_next_65 ?_
  refine lv_icmp_ne (tgt := 79) hx hb d_X_next_68 (by decide) (fun c68 => ?_) (fun c68 => ?_)
  · have h := ite_f c68 h
    refine lv_aload_n hx hb d_X_next_79 rfl (lv_at hl 0 rfl) ?_
    refine hg_r (j := 2) C hW 1 0 (hW.fx 1 rfl) rfl q_X (by decide) rfl (hW.fn (E := E1) (i := 1) (k := 0) rfl) (lkF C kf_X_9) d_X_next_80 ?_
    refine lv_aload_n hx hb d_X_next_83 rfl (lv_at hl 0 rfl) ?_
    refine hg_i C hW 1 2 (hW.fx 1 rfl) rfl q_X (by decide) rfl (lkF C kf_X_15) d_X_next_84 ?_
    obtain ⟨g4, h⟩ := gd_some h
    refine ha_b C hW 2 (hW.fx 2 rfl) rfl rfl g4 d_X_next_87 ?_
    obtain ⟨v5, ev5, h⟩ := lt_some h
    refine lt_i_n (lv' := [(1, .int (v5)), (0, .ref (ad 1))]) C d_X_next_88 rfl hl (by decide) ev5 rfl (fun ls hl => ?_)
    refine lv_iload_n hx hb d_X_next_89 rfl (lv_at hl 0 rfl) ?_
    refine lv_bipush (v := 40) hx hb d_X_next_90 (by decide) ?_
    refine lv_icmp_eq (tgt := 101) hx hb d_X_next_92 (by decide) (fun c92 => ?_) (fun c92 => ?_)
    · have h := ite_t c92 h
      exact w_X_next_101 C n v5 h hW hS (lv_sub hl [1, 0] rfl)
    · have h := ite_f c92 h
      refine lv_iload_n hx hb d_X_next_95 rfl (lv_at hl 0 rfl) ?_
      refine lv_bipush (v := 41) hx hb d_X_next_96 (by decide) ?_
      refine lv_icmp_ne (tgt := 131) hx hb d_X_next_98 (by decide) (fun c98 => ?_) (fun c98 => ?_)
      · have h := ite_f c98 h
        exact w_X_next_131 C n n v5 h hW hS (lv_sub hl [1, 0] rfl)
      · have h := ite_t c98 h
        exact w_X_next_101 C n v5 h hW hS (lv_sub hl [1, 0] rfl)
  · have h := ite_t c68 h
    refine lv_aload_n hx hb d_X_next_71 rfl (lv_at hl 0 rfl) ?_
    refine hc_so (i := 4) C hW hS (by decide) kf_X_28 d_X_next_72 ?_
    obtain ⟨S6, eS6, h⟩ := lt_some h
    refine hp_r (j := 504) C hW hS 1 3 (hW.fx 1 rfl) rfl q_X (by decide) rfl rfl rfl (lkF C kf_X_34) (Or.inr ⟨by decide, by decide⟩) rfl eS6 d_X_next_75 (fun H locs hW hS => ?_)
    have h := Option.some.inj h
    subst h
    exact he_v C hW hS d_X_next_78
set_option maxHeartbeats 4000000 in
set_option maxRecDepth 100000 in
theorem w_X_next_0B (C : CB p s m args c meth b_X_next "TwoLevelParser$Lexer" 2 none D cA z ac) (n : Nat) (kc : HS → Option HS) {S' : HS} (hk : ∀ (S : HS) {H : Heap} {locs : List Loc} {ls : Array Slot}, kc S = some S' → HW D cA z ac E1 ad S H → va_S (zA z) s.heap H locs → lv_has ls 2 [(0, .ref (ad 1))] → GW p l e 1 s m args below meth c D cA z ac E1 ad none S' H locs (F0 m 0 ls [])) {S : HS} {H : Heap} {locs : List Loc} {ls : Array Slot} (h : f_X_next_b0B n kc S = some S') (hW : HW D cA z ac E1 ad S H) (hS : va_S (zA z) s.heap H locs) (hl : lv_has ls 2 [(0, .ref (ad 1))]) : GW p l e 1 s m args below meth c D cA z ac E1 ad none S' H locs (F0 m 0 ls []) := by
  obtain ⟨⟨hx, hb, hml, hown, hts⟩, hK, hr, hlo⟩ := id C
  unfold f_X_next_b0B at h
  refine lv_aload_n hx hb d_X_next_0 rfl (lv_at hl 0 rfl) ?_
  refine hg_i C hW 1 2 (hW.fx 1 rfl) rfl q_X (by decide) rfl (lkF C kf_X_15) d_X_next_1 ?_
  refine lv_aload_n hx hb d_X_next_4 rfl (lv_at hl 0 rfl) ?_
  refine hg_i C hW 1 1 (hW.fx 1 rfl) rfl q_X (by decide) rfl (lkF C kf_X_22) d_X_next_5 ?_
  refine lv_icmp_ge (tgt := 52) hx hb d_X_next_8 (by decide) (fun c8 => ?_) (fun c8 => ?_)
  · have h := ite_t c8 h
    exact w_X_next_52 C n h hW hS (lv_sub hl [0] rfl)
  · have h := ite_f c8 h
    refine lv_aload_n hx hb d_X_next_11 rfl (lv_at hl 0 rfl) ?_
    refine hg_r (j := 2) C hW 1 0 (hW.fx 1 rfl) rfl q_X (by decide) rfl (hW.fn (E := E1) (i := 1) (k := 0) rfl) (lkF C kf_X_9) d_X_next_12 ?_
    refine lv_aload_n hx hb d_X_next_15 rfl (lv_at hl 0 rfl) ?_
    refine hg_i C hW 1 2 (hW.fx 1 rfl) rfl q_X (by decide) rfl (lkF C kf_X_15) d_X_next_16 ?_
    obtain ⟨g1, h⟩ := gd_some h
    refine ha_b C hW 2 (hW.fx 2 rfl) rfl rfl g1 d_X_next_19 ?_
    refine lv_bipush (v := 32) hx hb d_X_next_20 (by decide) ?_
    refine lv_icmp_eq (tgt := 39) hx hb d_X_next_22 (by decide) (fun c22 => ?_) (fun c22 => ?_)
    · have h := ite_t c22 h
      exact w_X_next_39 C n kc hk h hW hS (lv_sub hl [0] rfl)
    · have h := ite_f c22 h
      refine lv_aload_n hx hb d_X_next_25 rfl (lv_at hl 0 rfl) ?_
      refine hg_r (j := 2) C hW 1 0 (hW.fx 1 rfl) rfl q_X (by decide) rfl (hW.fn (E := E1) (i := 1) (k := 0) rfl) (lkF C kf_X_9) d_X_next_26 ?_
      refine lv_aload_n hx hb d_X_next_29 rfl (lv_at hl 0 rfl) ?_
      refine hg_i C hW 1 2 (hW.fx 1 rfl) rfl q_X (by decide) rfl (lkF C kf_X_15) d_X_next_30 ?_
      obtain ⟨g2, h⟩ := gd_some h
      refine ha_b C hW 2 (hW.fx 2 rfl) rfl rfl g2 d_X_next_33 ?_
      refine lv_bipush (v := 10) hx hb d_X_next_34 (by decide) ?_
      refine lv_icmp_ne (tgt := 52) hx hb d_X_next_36 (by decide) (fun c36 => ?_) (fun c36 => ?_)
      · have h := ite_f c36 h
        exact w_X_next_52 C n h hW hS (lv_sub hl [0] rfl)
      · have h := ite_t c36 h
        exact w_X_next_39 C n kc hk h hW hS (lv_sub hl [0] rfl)
set_option maxHeartbeats 4000000 in
set_option maxRecDepth 100000 in
theorem w_X_next_0 (C : CB p s m args c meth b_X_next "TwoLevelParser$Lexer" 2 none D cA z ac) (n : Nat) (k : Nat) {S' : HS} : ∀ {S : HS} {H : Heap} {locs : List Loc} {ls : Array Slot}, f_X_next_b0 n k S = some S' → HW D cA z ac E1 ad S H → va_S (zA z) s.heap H locs → lv_has ls 2 [(0, .ref (ad 1))] → GW p l e 1 s m args below meth c D cA z ac E1 ad none S' H locs (F0 m 0 ls []) := by
  induction k with
  | zero => intro S H locs ls h; cases h
  | succ k ih => intro S H locs ls h hW hS hl; exact w_X_next_0B C n (f_X_next_b0 n k) (fun S H locs ls h hW hS hl => ih h hW hS hl) h hW hS hl
set_option maxHeartbeats 4000000 in
set_option maxRecDepth 100000 in
theorem s_X_next (n : Nat) {S : HS} {S' : HS} (h : f_X_next n S = some S') : Met l y_X_next (.code y_X_next b_X_next 2 none :: lw_g) (rmD 1 0 0) (PcH D cA z ac E1 ad [.ref (ad 1)] S) (QN D cA z ac E1 ad none S') 0 0 (zA z) := by
  refine Met.ofH (own := "TwoLevelParser$Lexer") (by decide) rfl (Nat.le_of_ble_eq_true rfl) ?_
  intro p e s m args below meth c H ls C hW hS hl
  have hl : lv_has ls 2 [(0, .ref (ad 1))] := hl
  obtain ⟨⟨hx, hb, hml, hown, hts⟩, hK, hr, hlo⟩ := id C
  unfold f_X_next at h
  exact w_X_next_0 C n n h hW hS (lv_sub hl [0] rfl)
end WK
def f_X_begin (n : Nat) (S : HS) : Option HS :=
  lt (sF S 1 2 (0 : Int32)) fun S1 =>
  ob (f_X_next n S1) fun S2 =>
  some S2
section WK
variable {p : Program} {l : Launch} {e : Env} {s : State} {m : MethodId} {args : Array Value} {below : List Frame} {meth : Method} {c : Code} {D : va_G} {cA : Nat → ClassId} {z : Nat} {ac : Nat → Nat} {ad : Nat → Nat}
set_option maxHeartbeats 4000000 in
set_option maxRecDepth 100000 in
theorem s_X_begin (n : Nat) {S : HS} {S' : HS} (h : f_X_begin n S = some S') : Met l y_X_begin (.code y_X_begin b_X_begin 1 none :: lw_g) (rmD 2 0 0) (PcH D cA z ac E1 ad [.ref (ad 1)] S) (QN D cA z ac E1 ad none S') 0 0 (zA z) := by
  refine Met.ofH (own := "TwoLevelParser$Lexer") (by decide) rfl (Nat.le_of_ble_eq_true rfl) ?_
  intro p e s m args below meth c H ls C hW hS hl
  have hl : lv_has ls 1 [(0, .ref (ad 1))] := hl
  obtain ⟨⟨hx, hb, hml, hown, hts⟩, hK, hr, hlo⟩ := id C
  unfold f_X_begin at h
  refine lv_aload_n hx hb d_X_begin_0 rfl (lv_at hl 0 rfl) ?_
  refine lv_iconst (v := 0) hx hb d_X_begin_1 (by decide) ?_
  obtain ⟨S1, eS1, h⟩ := lt_some h
  refine hp_i C hW hS 1 2 (hW.fx 1 rfl) rfl q_X (by decide) rfl rfl rfl (lkF C kf_X_15) eS1 d_X_begin_2 (fun H locs hW hS => ?_)
  refine lv_aload_n hx hb d_X_begin_5 rfl (lv_at hl 0 rfl) ?_
  obtain ⟨S2, eS2, h⟩ := ob_some h
  refine hx_V (i := 1) (As := []) (rest := []) C hW hS (s_X_next n eS2) km_X_19 kv_X_next ke_X_next kn_X kw_X_next kd_X_next (hW.fx 1 rfl) rfl q_X rfl ⟨by decide, by decide⟩ ⟨Nat.zero_le _, Nat.zero_le _⟩ rfl hl.1 rfl (Nat.le_of_ble_eq_true rfl) d_X_begin_6 (fun H locs hW hS => ?_)
  have h := Option.some.inj h
  subst h
  exact he_v C hW hS d_X_begin_9
end WK
def f_P_give_b33B (n : Nat) (kc : Int64 → Int32 → HS → Option (Int32 × HS)) (x1 : Int64) (x4 : Int32) (S : HS) : Option (Int32 × HS) :=
  (if x4 < 0 then
  some ((1 : Int32), S)
  else
  gd (inR (gF S 1 1) 8192) <|
  lt (sF S 2 (gF S 1 1).toNatClampNeg ((((x1 >>> (((8 : Int32) * x4).toInt64 &&& 63)).toInt32).toInt8.toInt32).toInt8.toInt32)) fun S3 =>
  lt (sF S3 1 1 ((gF S3 1 1) + (1 : Int32))) fun S4 =>
  lt (x4 + -1) fun v5 =>
  kc x1 v5 S4)
def f_P_give_b33 (n : Nat) (k : Nat) : Int64 → Int32 → HS → Option (Int32 × HS) := lpF (fun _ _ _ => none) (f_P_give_b33B n) k
def f_P_give (n : Nat) (x1 : Int64) (x3 : Int32) (S : HS) : Option (Int32 × HS) :=
  (if x3 < (1 : Int32) then
  some ((0 : Int32), S)
  else
  (if (8 : Int32) < x3 then
  some ((0 : Int32), S)
  else
  (if ((gF S 1 1) + x3) ≤ (8192 : Int32) then
  lt (x3 - (1 : Int32)) fun v1 =>
  f_P_give_b33 n n x1 v1 S
  else
  some ((0 : Int32), S))))
section WK
variable {p : Program} {l : Launch} {e : Env} {s : State} {m : MethodId} {args : Array Value} {below : List Frame} {meth : Method} {c : Code} {D : va_G} {cA : Nat → ClassId} {z : Nat} {ac : Nat → Nat} {ad : Nat → Nat}
set_option maxHeartbeats 4000000 in
set_option maxRecDepth 100000 in
theorem w_P_give_33B (C : CB p s m args c meth b_P_give "TwoLevelParser" 5 (some .boolean) D cA z ac) (n : Nat) (kc : Int64 → Int32 → HS → Option (Int32 × HS)) {r : Int32} {S' : HS} (hk : ∀ (x1 : Int64) (x4 : Int32) (S : HS) {H : Heap} {locs : List Loc} {ls : Array Slot}, kc x1 x4 S = some (r, S') → HW D cA z ac E1 ad S H → va_S (zA z) s.heap H locs → lv_has ls 5 [(0, .ref (ad 0)), (1, .long (x1)), (4, .int (x4))] → GW p l e 0 s m args below meth c D cA z ac E1 ad (some (.int r)) S' H locs (F0 m 33 ls [])) (x1 : Int64) (x4 : Int32) {S : HS} {H : Heap} {locs : List Loc} {ls : Array Slot} (h : f_P_give_b33B n kc x1 x4 S = some (r, S')) (hW : HW D cA z ac E1 ad S H) (hS : va_S (zA z) s.heap H locs) (hl : lv_has ls 5 [(0, .ref (ad 0)), (1, .long (x1)), (4, .int (x4))]) : GW p l e 0 s m args below meth c D cA z ac E1 ad (some (.int r)) S' H locs (F0 m 33 ls []) := by
  obtain ⟨⟨hx, hb, hml, hown, hts⟩, hK, hr, hlo⟩ := id C
  unfold f_P_give_b33B at h
  refine lv_iload hx hb d_P_give_33 (lv_at hl 2 rfl) ?_
  refine lv_if_lt (tgt := 81) hx hb d_P_give_35 (by decide) (fun c35 => ?_) (fun c35 => ?_)
  · have h := ite_t c35 h
    refine lv_iconst (v := 1) hx hb d_P_give_81 (by decide) ?_
    obtain ⟨hr1, hr2⟩ := Prod.mk.inj (Option.some.inj h)
    subst hr1
    subst hr2
    exact he_z C hW hS (by decide) d_P_give_82
  · have h := ite_f c35 h
    refine lv_aload_n hx hb d_P_give_38 rfl (lv_at hl 0 rfl) ?_
    refine hg_r (j := 1) C hW 0 0 (hW.fx 0 rfl) rfl q_P (by decide) rfl (hW.fn (E := E1) (i := 0) (k := 0) rfl) (lkF C kf_P_112) d_P_give_39 ?_
    refine hg_r (j := 2) C hW 1 0 (hW.fx 1 rfl) rfl q_X (by decide) rfl (hW.fn (E := E1) (i := 1) (k := 0) rfl) (lkN C kf_P_142) d_P_give_42 ?_
    refine lv_aload_n hx hb d_P_give_45 rfl (lv_at hl 0 rfl) ?_
    refine hg_r (j := 1) C hW 0 0 (hW.fx 0 rfl) rfl q_P (by decide) rfl (hW.fn (E := E1) (i := 0) (k := 0) rfl) (lkF C kf_P_112) d_P_give_46 ?_
    refine hg_i C hW 1 1 (hW.fx 1 rfl) rfl q_X (by decide) rfl (lkN C kf_P_139) d_P_give_49 ?_
    refine lv_lload_n hx hb d_P_give_52 rfl (lv_at hl 1 rfl) ?_
    refine lv_bipush (v := 8) hx hb d_P_give_53 (by decide) ?_
    refine lv_iload hx hb d_P_give_55 (lv_at hl 2 rfl) ?_
    refine lv_imul hx hb d_P_give_57 ?_
    refine lv_lshr (v := (x1 >>> (((8 : Int32) * x4).toInt64 &&& 63))) hx hb d_P_give_58 rfl ?_
    refine lv_l2i (v := (x1 >>> (((8 : Int32) * x4).toInt64 &&& 63)).toInt32) hx hb d_P_give_59 rfl ?_
    refine lv_i2b (v := ((x1 >>> (((8 : Int32) * x4).toInt64 &&& 63)).toInt32).toInt8.toInt32) hx hb d_P_give_60 rfl ?_
    obtain ⟨g2, h⟩ := gd_some h
    obtain ⟨S3, eS3, h⟩ := lt_some h
    refine hs_b C hW hS 2 (hW.fx 2 rfl) rfl rfl g2 rfl eS3 d_P_give_61 (fun H locs hW hS => ?_)
    refine lv_aload_n hx hb d_P_give_62 rfl (lv_at hl 0 rfl) ?_
    refine hg_r (j := 1) C hW 0 0 (hW.fx 0 rfl) rfl q_P (by decide) rfl (hW.fn (E := E1) (i := 0) (k := 0) rfl) (lkF C kf_P_112) d_P_give_63 ?_
    refine lv_dup hx hb d_P_give_66 rfl ?_
    refine hg_i C hW 1 1 (hW.fx 1 rfl) rfl q_X (by decide) rfl (lkN C kf_P_139) d_P_give_67 ?_
    refine lv_iconst (v := 1) hx hb d_P_give_70 (by decide) ?_
    refine lv_iadd hx hb d_P_give_71 ?_
    obtain ⟨S4, eS4, h⟩ := lt_some h
    refine hp_i C hW hS 1 1 (hW.fx 1 rfl) rfl q_X (by decide) rfl rfl rfl (lkN C kf_P_139) eS4 d_P_give_72 (fun H locs hW hS => ?_)
    obtain ⟨v5, ev5, h⟩ := lt_some h
    refine lv_iinc (v := v5) (lv' := [(4, .int (v5)), (0, .ref (ad 0)), (1, .long (x1))]) hx hb d_P_give_75 hl (k := 2) rfl (by rw [ev5]; rfl) (by decide) rfl (fun ls hl => ?_)
    refine lv_goto (tgt := 33) hx hb d_P_give_78 (by decide) ?_
    exact hk _ _ _ h hW hS (lv_sub hl [1, 2, 0] rfl)
set_option maxHeartbeats 4000000 in
set_option maxRecDepth 100000 in
theorem w_P_give_33 (C : CB p s m args c meth b_P_give "TwoLevelParser" 5 (some .boolean) D cA z ac) (n : Nat) (k : Nat) {r : Int32} {S' : HS} : ∀ (x1 : Int64) (x4 : Int32) {S : HS} {H : Heap} {locs : List Loc} {ls : Array Slot}, f_P_give_b33 n k x1 x4 S = some (r, S') → HW D cA z ac E1 ad S H → va_S (zA z) s.heap H locs → lv_has ls 5 [(0, .ref (ad 0)), (1, .long (x1)), (4, .int (x4))] → GW p l e 0 s m args below meth c D cA z ac E1 ad (some (.int r)) S' H locs (F0 m 33 ls []) := by
  induction k with
  | zero => intro x1 x4 S H locs ls h; cases h
  | succ k ih => intro x1 x4 S H locs ls h hW hS hl; exact w_P_give_33B C n (f_P_give_b33 n k) (fun x1 x4 S H locs ls h hW hS hl => ih x1 x4 h hW hS hl) x1 x4 h hW hS hl
set_option maxHeartbeats 4000000 in
set_option maxRecDepth 100000 in
theorem s_P_give (n : Nat) (x1 : Int64) (x3 : Int32) {S : HS} {r : Int32} {S' : HS} (h : f_P_give n x1 x3 S = some (r, S')) : Met l y_P_give (.code y_P_give b_P_give 5 (some .boolean) :: lw_g) (rmD 0 0 0) (PcH D cA z ac E1 ad [.ref (ad 0), .long (x1), .int (x3)] S) (QN D cA z ac E1 ad (some (.int r)) S') 0 0 (zA z) := by
  refine Met.ofH (own := "TwoLevelParser") (by decide) rfl (Nat.le_of_ble_eq_true rfl) ?_
  intro p e s m args below meth c H ls C hW hS hl
  have hl : lv_has ls 5 [(0, .ref (ad 0)), (1, .long (x1)), (3, .int (x3))] := hl
  obtain ⟨⟨hx, hb, hml, hown, hts⟩, hK, hr, hlo⟩ := id C
  unfold f_P_give at h
  refine lv_iload_n hx hb d_P_give_0 rfl (lv_at hl 2 rfl) ?_
  refine lv_iconst (v := 1) hx hb d_P_give_1 (by decide) ?_
  refine lv_icmp_lt (tgt := 26) hx hb d_P_give_2 (by decide) (fun c2 => ?_) (fun c2 => ?_)
  · have h := ite_t c2 h
    refine lv_iconst (v := 0) hx hb d_P_give_26 (by decide) ?_
    obtain ⟨hr1, hr2⟩ := Prod.mk.inj (Option.some.inj h)
    subst hr1
    subst hr2
    exact he_z C hW hS (by decide) d_P_give_27
  · have h := ite_f c2 h
    refine lv_iload_n hx hb d_P_give_5 rfl (lv_at hl 2 rfl) ?_
    refine lv_bipush (v := 8) hx hb d_P_give_6 (by decide) ?_
    refine lv_icmp_gt (tgt := 26) hx hb d_P_give_8 (by decide) (fun c8 => ?_) (fun c8 => ?_)
    · have h := ite_t c8 h
      refine lv_iconst (v := 0) hx hb d_P_give_26 (by decide) ?_
      obtain ⟨hr1, hr2⟩ := Prod.mk.inj (Option.some.inj h)
      subst hr1
      subst hr2
      exact he_z C hW hS (by decide) d_P_give_27
    · have h := ite_f c8 h
      refine lv_aload_n hx hb d_P_give_11 rfl (lv_at hl 0 rfl) ?_
      refine hg_r (j := 1) C hW 0 0 (hW.fx 0 rfl) rfl q_P (by decide) rfl (hW.fn (E := E1) (i := 0) (k := 0) rfl) (lkF C kf_P_112) d_P_give_12 ?_
      refine hg_i C hW 1 1 (hW.fx 1 rfl) rfl q_X (by decide) rfl (lkN C kf_P_139) d_P_give_15 ?_
      refine lv_iload_n hx hb d_P_give_18 rfl (lv_at hl 2 rfl) ?_
      refine lv_iadd hx hb d_P_give_19 ?_
      refine lv_sipush (v := 8192) hx hb d_P_give_20 (by decide) ?_
      refine lv_icmp_le (tgt := 28) hx hb d_P_give_23 (by decide) (fun c23 => ?_) (fun c23 => ?_)
      · have h := ite_t c23 h
        refine lv_iload_n hx hb d_P_give_28 rfl (lv_at hl 2 rfl) ?_
        refine lv_iconst (v := 1) hx hb d_P_give_29 (by decide) ?_
        refine lv_isub hx hb d_P_give_30 ?_
        obtain ⟨v1, ev1, h⟩ := lt_some h
        refine lt_i (lv' := [(4, .int (v1)), (0, .ref (ad 0)), (1, .long (x1)), (3, .int (x3))]) C d_P_give_31 hl (by decide) ev1 rfl (fun ls hl => ?_)
        exact w_P_give_33 C n n x1 v1 h hW hS (lv_sub hl [1, 2, 0] rfl)
      · have h := ite_f c23 h
        refine lv_iconst (v := 0) hx hb d_P_give_26 (by decide) ?_
        obtain ⟨hr1, hr2⟩ := Prod.mk.inj (Option.some.inj h)
        subst hr1
        subst hr2
        exact he_z C hW hS (by decide) d_P_give_27
end WK
def f_P_wipe (S : HS) : Option HS :=
  lt (sF S 1 1 (0 : Int32)) fun S1 =>
  some S1
section WK
variable {p : Program} {l : Launch} {e : Env} {s : State} {m : MethodId} {args : Array Value} {below : List Frame} {meth : Method} {c : Code} {D : va_G} {cA : Nat → ClassId} {z : Nat} {ac : Nat → Nat} {ad : Nat → Nat}
set_option maxHeartbeats 4000000 in
set_option maxRecDepth 100000 in
theorem s_P_wipe {S : HS} {S' : HS} (h : f_P_wipe S = some S') : Met l y_P_wipe (.code y_P_wipe b_P_wipe 1 none :: lw_g) (rmD 0 0 0) (PcH D cA z ac E1 ad [.ref (ad 0)] S) (QN D cA z ac E1 ad none S') 0 0 (zA z) := by
  refine Met.ofH (own := "TwoLevelParser") (by decide) rfl (Nat.le_of_ble_eq_true rfl) ?_
  intro p e s m args below meth c H ls C hW hS hl
  have hl : lv_has ls 1 [(0, .ref (ad 0))] := hl
  obtain ⟨⟨hx, hb, hml, hown, hts⟩, hK, hr, hlo⟩ := id C
  unfold f_P_wipe at h
  refine lv_aload_n hx hb d_P_wipe_0 rfl (lv_at hl 0 rfl) ?_
  refine hg_r (j := 1) C hW 0 0 (hW.fx 0 rfl) rfl q_P (by decide) rfl (hW.fn (E := E1) (i := 0) (k := 0) rfl) (lkF C kf_P_112) d_P_wipe_1 ?_
  refine lv_iconst (v := 0) hx hb d_P_wipe_4 (by decide) ?_
  obtain ⟨S1, eS1, h⟩ := lt_some h
  refine hp_i C hW hS 1 1 (hW.fx 1 rfl) rfl q_X (by decide) rfl rfl rfl (lkN C kf_P_139) eS1 d_P_wipe_5 (fun H locs hW hS => ?_)
  have h := Option.some.inj h
  subst h
  exact he_v C hW hS d_P_wipe_8
end WK
def f_P_refuse_b43 (y0 : Int32) (S : HS) : Option HS :=
  lt (sF S 0 7 y0) fun S5 =>
  lt (sF S5 0 8 (gF S5 1 4)) fun S6 =>
  some S6
def f_P_refuse (S : HS) : Option HS :=
  (if (gF S 0 7) = 0 then
  ob (gX S 1 3) fun j1 =>
  gd (isSo j1 ∧ isSo 505) (if j1 = 505 then
  f_P_refuse_b43 (1 : Int32) S
  else
  ob (gX S 1 3) fun j3 =>
  gd (isSo j3 ∧ isSo 504) (if j3 = 504 then
  f_P_refuse_b43 (3 : Int32) S
  else
  f_P_refuse_b43 (2 : Int32) S))
  else
  some S)
section WK
variable {p : Program} {l : Launch} {e : Env} {s : State} {m : MethodId} {args : Array Value} {below : List Frame} {meth : Method} {c : Code} {D : va_G} {cA : Nat → ClassId} {z : Nat} {ac : Nat → Nat} {ad : Nat → Nat}
set_option maxHeartbeats 4000000 in
set_option maxRecDepth 100000 in
theorem w_P_refuse_43 (C : CB p s m args c meth b_P_refuse "TwoLevelParser" 1 none D cA z ac) {S' : HS} (y0 : Int32) {S : HS} {H : Heap} {locs : List Loc} {ls : Array Slot} (h : f_P_refuse_b43 y0 S = some S') (hW : HW D cA z ac E1 ad S H) (hS : va_S (zA z) s.heap H locs) (hl : lv_has ls 1 [(0, .ref (ad 0))]) : GW p l e 0 s m args below meth c D cA z ac E1 ad none S' H locs (F0 m 43 ls [.int (y0), .ref (ad 0)]) := by
  obtain ⟨⟨hx, hb, hml, hown, hts⟩, hK, hr, hlo⟩ := id C
  unfold f_P_refuse_b43 at h
  obtain ⟨S5, eS5, h⟩ := lt_some h
  refine hp_i C hW hS 0 7 (hW.fx 0 rfl) rfl q_P (by decide) rfl rfl rfl (lkF C kf_P_146) eS5 d_P_refuse_43 (fun H locs hW hS => ?_)
  refine lv_aload_n hx hb d_P_refuse_46 rfl (lv_at hl 0 rfl) ?_
  refine lv_aload_n hx hb d_P_refuse_47 rfl (lv_at hl 0 rfl) ?_
  refine hg_r (j := 1) C hW 0 0 (hW.fx 0 rfl) rfl q_P (by decide) rfl (hW.fn (E := E1) (i := 0) (k := 0) rfl) (lkF C kf_P_112) d_P_refuse_48 ?_
  refine hg_i C hW 1 4 (hW.fx 1 rfl) rfl q_X (by decide) rfl (lkN C kf_P_161) d_P_refuse_51 ?_
  obtain ⟨S6, eS6, h⟩ := lt_some h
  refine hp_i C hW hS 0 8 (hW.fx 0 rfl) rfl q_P (by decide) rfl rfl rfl (lkF C kf_P_134) eS6 d_P_refuse_54 (fun H locs hW hS => ?_)
  have h := Option.some.inj h
  subst h
  exact he_v C hW hS d_P_refuse_57
set_option maxHeartbeats 4000000 in
set_option maxRecDepth 100000 in
theorem s_P_refuse {S : HS} {S' : HS} (h : f_P_refuse S = some S') : Met l y_P_refuse (.code y_P_refuse b_P_refuse 1 none :: lw_g) (rmD 0 0 0) (PcH D cA z ac E1 ad [.ref (ad 0)] S) (QN D cA z ac E1 ad none S') 0 0 (zA z) := by
  refine Met.ofH (own := "TwoLevelParser") (by decide) rfl (Nat.le_of_ble_eq_true rfl) ?_
  intro p e s m args below meth c H ls C hW hS hl
  have hl : lv_has ls 1 [(0, .ref (ad 0))] := hl
  obtain ⟨⟨hx, hb, hml, hown, hts⟩, hK, hr, hlo⟩ := id C
  unfold f_P_refuse at h
  refine lv_aload_n hx hb d_P_refuse_0 rfl (lv_at hl 0 rfl) ?_
  refine hg_i C hW 0 7 (hW.fx 0 rfl) rfl q_P (by decide) rfl (lkF C kf_P_146) d_P_refuse_1 ?_
  refine lv_if_ne (tgt := 57) hx hb d_P_refuse_4 (by decide) (fun c4 => ?_) (fun c4 => ?_)
  · have h := ite_f c4 h
    have h := Option.some.inj h
    subst h
    exact he_v C hW hS d_P_refuse_57
  · have h := ite_t c4 h
    refine lv_aload_n hx hb d_P_refuse_7 rfl (lv_at hl 0 rfl) ?_
    refine lv_aload_n hx hb d_P_refuse_8 rfl (lv_at hl 0 rfl) ?_
    refine hg_r (j := 1) C hW 0 0 (hW.fx 0 rfl) rfl q_P (by decide) rfl (hW.fn (E := E1) (i := 0) (k := 0) rfl) (lkF C kf_P_112) d_P_refuse_9 ?_
    obtain ⟨j1, ej1, h⟩ := ob_some h
    refine hg_r (j := j1) C hW 1 3 (hW.fx 1 rfl) rfl q_X (by decide) rfl ej1 (lkN C kf_P_149) d_P_refuse_12 ?_
    refine hc_so (i := 5) C hW hS (by decide) kf_P_153 d_P_refuse_15 ?_
    obtain ⟨g2, h⟩ := gd_some h
    refine hj_ne (tgt := 25) C hW g2.1 g2.2 d_P_refuse_18 (by decide) (fun c18 => ?_) (fun c18 => ?_)
    · have h := ite_t c18 h
      refine lv_iconst (v := 1) hx hb d_P_refuse_21 (by decide) ?_
      refine lv_goto (tgt := 43) hx hb d_P_refuse_22 (by decide) ?_
      exact w_P_refuse_43 C (1 : Int32) h hW hS (lv_sub hl [0] rfl)
    · have h := ite_f c18 h
      refine lv_aload_n hx hb d_P_refuse_25 rfl (lv_at hl 0 rfl) ?_
      refine hg_r (j := 1) C hW 0 0 (hW.fx 0 rfl) rfl q_P (by decide) rfl (hW.fn (E := E1) (i := 0) (k := 0) rfl) (lkF C kf_P_112) d_P_refuse_26 ?_
      obtain ⟨j3, ej3, h⟩ := ob_some h
      refine hg_r (j := j3) C hW 1 3 (hW.fx 1 rfl) rfl q_X (by decide) rfl ej3 (lkN C kf_P_149) d_P_refuse_29 ?_
      refine hc_so (i := 4) C hW hS (by decide) kf_P_158 d_P_refuse_32 ?_
      obtain ⟨g4, h⟩ := gd_some h
      refine hj_ne (tgt := 42) C hW g4.1 g4.2 d_P_refuse_35 (by decide) (fun c35 => ?_) (fun c35 => ?_)
      · have h := ite_t c35 h
        refine lv_iconst (v := 3) hx hb d_P_refuse_38 (by decide) ?_
        refine lv_goto (tgt := 43) hx hb d_P_refuse_39 (by decide) ?_
        exact w_P_refuse_43 C (3 : Int32) h hW hS (lv_sub hl [0] rfl)
      · have h := ite_f c35 h
        refine lv_iconst (v := 2) hx hb d_P_refuse_42 (by decide) ?_
        exact w_P_refuse_43 C (2 : Int32) h hW hS (lv_sub hl [0] rfl)
end WK
def f_P_spelled_b4B (n : Nat) (kc : Nat → Int64 → Int32 → Option Int64) (x0 : Nat) (x1 : Int64) (x3 : Int32) : Option Int64 :=
  ob (f_Js_length x0) fun r3 =>
  (if r3 ≤ x3 then
  some x1
  else
  ob (f_Js_charAt x0 x3) fun r4 =>
  lt ((((32 : Int64) * x1) + r4.toInt64) - (96 : Int64)) fun v5 =>
  lt (x3 + 1) fun v6 =>
  kc x0 v5 v6)
def f_P_spelled_b4 (n : Nat) (k : Nat) : Nat → Int64 → Int32 → Option Int64 := lpF (fun _ _ _ => none) (f_P_spelled_b4B n) k
def f_P_spelled (n : Nat) (x0 : Nat) : Option Int64 :=
  lt (0 : Int64) fun v1 =>
  lt (0 : Int32) fun v2 =>
  f_P_spelled_b4 n n x0 v1 v2
section WK
variable {p : Program} {l : Launch} {e : Env} {s : State} {m : MethodId} {args : Array Value} {below : List Frame} {meth : Method} {c : Code} {D : va_G} {cA : Nat → ClassId} {z : Nat} {ac : Nat → Nat} {ad : Nat → Nat}
set_option maxHeartbeats 4000000 in
set_option maxRecDepth 100000 in
theorem w_P_spelled_4B (C : CB p s m args c meth b_P_spelled "TwoLevelParser" 4 (some .long) D cA z ac) (n : Nat) (kc : Nat → Int64 → Int32 → Option Int64) {r : Int64} (hk : ∀ (x0 : Nat) (x1 : Int64) (x3 : Int32) (S : HS) {H : Heap} {locs : List Loc} {ls : Array Slot}, kc x0 x1 x3 = some r → HW D cA z ac E1 ad S H → va_S (zA z) s.heap H locs → lv_has ls 4 [(0, .ref (ad x0)), (1, .long (x1)), (3, .int (x3))] → GW p l e 4 s m args below meth c D cA z ac E1 ad (some (.long r)) S H locs (F0 m 4 ls [])) (x0 : Nat) (x1 : Int64) (x3 : Int32) {S : HS} {H : Heap} {locs : List Loc} {ls : Array Slot} (h : f_P_spelled_b4B n kc x0 x1 x3 = some r) (hW : HW D cA z ac E1 ad S H) (hS : va_S (zA z) s.heap H locs) (hl : lv_has ls 4 [(0, .ref (ad x0)), (1, .long (x1)), (3, .int (x3))]) : GW p l e 4 s m args below meth c D cA z ac E1 ad (some (.long r)) S H locs (F0 m 4 ls []) := by
  obtain ⟨⟨hx, hb, hml, hown, hts⟩, hK, hr, hlo⟩ := id C
  unfold f_P_spelled_b4B at h
  refine lv_iload_n hx hb d_P_spelled_4 rfl (lv_at hl 2 rfl) ?_
  refine lv_aload_n hx hb d_P_spelled_5 rfl (lv_at hl 0 rfl) ?_
  obtain ⟨r3, er3, h⟩ := ob_some h
  refine hx_len C hW hS er3 km_P_1 ⟨by decide, by decide⟩ ⟨Nat.zero_le _, Nat.zero_le _⟩ hl.1 (Nat.le_of_ble_eq_true rfl) d_P_spelled_6 (fun H locs hW hS => ?_)
  refine lv_icmp_ge (tgt := 35) hx hb d_P_spelled_9 (by decide) (fun c9 => ?_) (fun c9 => ?_)
  · have h := ite_t c9 h
    refine lv_lload_n hx hb d_P_spelled_35 rfl (lv_at hl 1 rfl) ?_
    have h := Option.some.inj h
    subst h
    exact he_l C hW hS d_P_spelled_36
  · have h := ite_f c9 h
    refine lv_ldc2 hx hb hown (hts _ kl_P_7) d_P_spelled_12 ?_
    refine lv_lload_n hx hb d_P_spelled_15 rfl (lv_at hl 1 rfl) ?_
    refine lv_lmul hx hb d_P_spelled_16 ?_
    refine lv_aload_n hx hb d_P_spelled_17 rfl (lv_at hl 0 rfl) ?_
    refine lv_iload_n hx hb d_P_spelled_18 rfl (lv_at hl 2 rfl) ?_
    obtain ⟨r4, er4, h⟩ := ob_some h
    refine hx_chr C hW hS er4 km_P_9 ⟨by decide, by decide⟩ ⟨Nat.zero_le _, Nat.zero_le _⟩ hl.1 (Nat.le_of_ble_eq_true rfl) d_P_spelled_19 (fun H locs hW hS => ?_)
    refine lv_i2l (v := r4.toInt64) hx hb d_P_spelled_22 rfl ?_
    refine lv_ladd hx hb d_P_spelled_23 ?_
    refine lv_ldc2 hx hb hown (hts _ kl_P_13) d_P_spelled_24 ?_
    refine lv_lsub hx hb d_P_spelled_27 ?_
    obtain ⟨v5, ev5, h⟩ := lt_some h
    refine lt_l_n (lv' := [(1, .long (v5)), (0, .ref (ad x0)), (3, .int (x3))]) C d_P_spelled_28 rfl hl (by decide) ev5 rfl (fun ls hl => ?_)
    obtain ⟨v6, ev6, h⟩ := lt_some h
    refine lv_iinc (v := v6) (lv' := [(3, .int (v6)), (1, .long (v5)), (0, .ref (ad x0))]) hx hb d_P_spelled_29 hl (k := 2) rfl (by rw [ev6]; rfl) (by decide) rfl (fun ls hl => ?_)
    refine lv_goto (tgt := 4) hx hb d_P_spelled_32 (by decide) ?_
    exact hk _ _ _ _ h hW hS (lv_sub hl [2, 1, 0] rfl)
set_option maxHeartbeats 4000000 in
set_option maxRecDepth 100000 in
theorem w_P_spelled_4 (C : CB p s m args c meth b_P_spelled "TwoLevelParser" 4 (some .long) D cA z ac) (n : Nat) (k : Nat) {r : Int64} : ∀ (x0 : Nat) (x1 : Int64) (x3 : Int32) {S : HS} {H : Heap} {locs : List Loc} {ls : Array Slot}, f_P_spelled_b4 n k x0 x1 x3 = some r → HW D cA z ac E1 ad S H → va_S (zA z) s.heap H locs → lv_has ls 4 [(0, .ref (ad x0)), (1, .long (x1)), (3, .int (x3))] → GW p l e 4 s m args below meth c D cA z ac E1 ad (some (.long r)) S H locs (F0 m 4 ls []) := by
  induction k with
  | zero => intro x0 x1 x3 S H locs ls h; cases h
  | succ k ih => intro x0 x1 x3 S H locs ls h hW hS hl; exact w_P_spelled_4B C n (f_P_spelled_b4 n k) (fun x0 x1 x3 S H locs ls h hW hS hl => ih x0 x1 x3 h hW hS hl) x0 x1 x3 h hW hS hl
set_option maxHeartbeats 4000000 in
set_option maxRecDepth 100000 in
theorem s_P_spelled (n : Nat) (x0 : Nat) {S : HS} {r : Int64} (h : f_P_spelled n x0 = some r) : Met l y_P_spelled (.code y_P_spelled b_P_spelled 4 (some .long) :: lw_g) (rmD 4 0 0) (PcH D cA z ac E1 ad [.ref (ad x0)] S) (QN D cA z ac E1 ad (some (.long r)) S) 0 0 (zA z) := by
  refine Met.ofH (own := "TwoLevelParser") (by decide) rfl (Nat.le_of_ble_eq_true rfl) ?_
  intro p e s m args below meth c H ls C hW hS hl
  have hl : lv_has ls 4 [(0, .ref (ad x0))] := hl
  obtain ⟨⟨hx, hb, hml, hown, hts⟩, hK, hr, hlo⟩ := id C
  unfold f_P_spelled at h
  refine lv_lconst (v := 0) hx hb d_P_spelled_0 (by decide) ?_
  obtain ⟨v1, ev1, h⟩ := lt_some h
  refine lt_l_n (lv' := [(1, .long (v1)), (0, .ref (ad x0))]) C d_P_spelled_1 rfl hl (by decide) ev1 rfl (fun ls hl => ?_)
  refine lv_iconst (v := 0) hx hb d_P_spelled_2 (by decide) ?_
  obtain ⟨v2, ev2, h⟩ := lt_some h
  refine lt_i_n (lv' := [(3, .int (v2)), (1, .long (v1)), (0, .ref (ad x0))]) C d_P_spelled_3 rfl hl (by decide) ev2 rfl (fun ls hl => ?_)
  exact w_P_spelled_4 C n n x0 v1 v2 h hW hS (lv_sub hl [2, 1, 0] rfl)
end WK
def f_P_wordOf (x0 : Int32) : Option Nat :=
  (if x0 = (3 : Int32) then
  some 307
  else
  (if x0 = (4 : Int32) then
  some 308
  else
  (if x0 = (5 : Int32) then
  some 309
  else
  (if x0 = (6 : Int32) then
  some 310
  else
  (if x0 = (7 : Int32) then
  some 311
  else
  (if x0 = (8 : Int32) then
  some 312
  else
  (if x0 = (9 : Int32) then
  some 313
  else
  (if x0 = (10 : Int32) then
  some 314
  else
  (if x0 = (11 : Int32) then
  some 315
  else
  (if x0 = (12 : Int32) then
  some 316
  else
  (if x0 = (13 : Int32) then
  some 317
  else
  (if x0 = (14 : Int32) then
  some 318
  else
  (if x0 = (15 : Int32) then
  some 319
  else
  (if x0 = (16 : Int32) then
  some 305
  else
  (if x0 = (17 : Int32) then
  some 306
  else
  (if x0 = (18 : Int32) then
  some 320
  else
  (if x0 = (19 : Int32) then
  some 321
  else
  (if x0 = (20 : Int32) then
  some 314
  else
  (if x0 = (21 : Int32) then
  some 315
  else
  (if x0 = (22 : Int32) then
  some 316
  else
  (if x0 = (23 : Int32) then
  some 322
  else
  some 323)))))))))))))))))))))
section WK
variable {p : Program} {l : Launch} {e : Env} {s : State} {m : MethodId} {args : Array Value} {below : List Frame} {meth : Method} {c : Code} {D : va_G} {cA : Nat → ClassId} {z : Nat} {ac : Nat → Nat} {ad : Nat → Nat}
set_option maxHeartbeats 4000000 in
set_option maxRecDepth 100000 in
theorem s_P_wordOf (x0 : Int32) {S : HS} {r : Nat} (h : f_P_wordOf x0 = some r) : Met l y_P_wordOf (.code y_P_wordOf b_P_wordOf 1 (some (.object "java/lang/String")) :: lw_g) (rmD 0 0 0) (PcH D cA z ac E1 ad [.int (x0)] S) (QN D cA z ac E1 ad (some (.ref (ad r))) S) 0 0 (zA z) := by
  refine Met.ofH (own := "TwoLevelParser") (by decide) rfl (Nat.le_of_ble_eq_true rfl) ?_
  intro p e s m args below meth c H ls C hW hS hl
  have hl : lv_has ls 1 [(0, .int (x0))] := hl
  obtain ⟨⟨hx, hb, hml, hown, hts⟩, hK, hr, hlo⟩ := id C
  unfold f_P_wordOf at h
  refine lv_iload_n hx hb d_P_wordOf_0 rfl (lv_at hl 0 rfl) ?_
  by_cases c1_3 : x0 = (3 : Int32)
  · have h := ite_t c1_3 h
    refine lv_tableIn (off := 99) (tgt := 100) hx hb d_P_wordOf_1 (by rw [c1_3]; decide) (by rw [c1_3]; decide) (by rw [c1_3]; rfl) (by decide) ?_
    refine hc_s (i := 7) C hW rfl (by decide) rfl rfl d_P_wordOf_100 ?_
    have h := Option.some.inj h
    subst h
    exact he_r C hW hS d_P_wordOf_102
  · have h := ite_f c1_3 h
    by_cases c1_4 : x0 = (4 : Int32)
    · have h := ite_t c1_4 h
      refine lv_tableIn (off := 102) (tgt := 103) hx hb d_P_wordOf_1 (by rw [c1_4]; decide) (by rw [c1_4]; decide) (by rw [c1_4]; rfl) (by decide) ?_
      refine hc_s (i := 8) C hW rfl (by decide) rfl rfl d_P_wordOf_103 ?_
      have h := Option.some.inj h
      subst h
      exact he_r C hW hS d_P_wordOf_105
    · have h := ite_f c1_4 h
      by_cases c1_5 : x0 = (5 : Int32)
      · have h := ite_t c1_5 h
        refine lv_tableIn (off := 105) (tgt := 106) hx hb d_P_wordOf_1 (by rw [c1_5]; decide) (by rw [c1_5]; decide) (by rw [c1_5]; rfl) (by decide) ?_
        refine hc_s (i := 9) C hW rfl (by decide) rfl rfl d_P_wordOf_106 ?_
        have h := Option.some.inj h
        subst h
        exact he_r C hW hS d_P_wordOf_108
      · have h := ite_f c1_5 h
        by_cases c1_6 : x0 = (6 : Int32)
        · have h := ite_t c1_6 h
          refine lv_tableIn (off := 108) (tgt := 109) hx hb d_P_wordOf_1 (by rw [c1_6]; decide) (by rw [c1_6]; decide) (by rw [c1_6]; rfl) (by decide) ?_
          refine hc_s (i := 10) C hW rfl (by decide) rfl rfl d_P_wordOf_109 ?_
          have h := Option.some.inj h
          subst h
          exact he_r C hW hS d_P_wordOf_111
        · have h := ite_f c1_6 h
          by_cases c1_7 : x0 = (7 : Int32)
          · have h := ite_t c1_7 h
            refine lv_tableIn (off := 111) (tgt := 112) hx hb d_P_wordOf_1 (by rw [c1_7]; decide) (by rw [c1_7]; decide) (by rw [c1_7]; rfl) (by decide) ?_
            refine hc_s (i := 11) C hW rfl (by decide) rfl rfl d_P_wordOf_112 ?_
            have h := Option.some.inj h
            subst h
            exact he_r C hW hS d_P_wordOf_114
          · have h := ite_f c1_7 h
            by_cases c1_8 : x0 = (8 : Int32)
            · have h := ite_t c1_8 h
              refine lv_tableIn (off := 114) (tgt := 115) hx hb d_P_wordOf_1 (by rw [c1_8]; decide) (by rw [c1_8]; decide) (by rw [c1_8]; rfl) (by decide) ?_
              refine hc_s (i := 12) C hW rfl (by decide) rfl rfl d_P_wordOf_115 ?_
              have h := Option.some.inj h
              subst h
              exact he_r C hW hS d_P_wordOf_117
            · have h := ite_f c1_8 h
              by_cases c1_9 : x0 = (9 : Int32)
              · have h := ite_t c1_9 h
                refine lv_tableIn (off := 117) (tgt := 118) hx hb d_P_wordOf_1 (by rw [c1_9]; decide) (by rw [c1_9]; decide) (by rw [c1_9]; rfl) (by decide) ?_
                refine hc_s (i := 13) C hW rfl (by decide) rfl rfl d_P_wordOf_118 ?_
                have h := Option.some.inj h
                subst h
                exact he_r C hW hS d_P_wordOf_120
              · have h := ite_f c1_9 h
                by_cases c1_10 : x0 = (10 : Int32)
                · have h := ite_t c1_10 h
                  refine lv_tableIn (off := 120) (tgt := 121) hx hb d_P_wordOf_1 (by rw [c1_10]; decide) (by rw [c1_10]; decide) (by rw [c1_10]; rfl) (by decide) ?_
                  refine hc_s (i := 14) C hW rfl (by decide) rfl rfl d_P_wordOf_121 ?_
                  have h := Option.some.inj h
                  subst h
                  exact he_r C hW hS d_P_wordOf_123
                · have h := ite_f c1_10 h
                  by_cases c1_11 : x0 = (11 : Int32)
                  · have h := ite_t c1_11 h
                    refine lv_tableIn (off := 123) (tgt := 124) hx hb d_P_wordOf_1 (by rw [c1_11]; decide) (by rw [c1_11]; decide) (by rw [c1_11]; rfl) (by decide) ?_
                    refine hc_s (i := 15) C hW rfl (by decide) rfl rfl d_P_wordOf_124 ?_
                    have h := Option.some.inj h
                    subst h
                    exact he_r C hW hS d_P_wordOf_126
                  · have h := ite_f c1_11 h
                    by_cases c1_12 : x0 = (12 : Int32)
                    · have h := ite_t c1_12 h
                      refine lv_tableIn (off := 126) (tgt := 127) hx hb d_P_wordOf_1 (by rw [c1_12]; decide) (by rw [c1_12]; decide) (by rw [c1_12]; rfl) (by decide) ?_
                      refine hc_s (i := 16) C hW rfl (by decide) rfl rfl d_P_wordOf_127 ?_
                      have h := Option.some.inj h
                      subst h
                      exact he_r C hW hS d_P_wordOf_129
                    · have h := ite_f c1_12 h
                      by_cases c1_13 : x0 = (13 : Int32)
                      · have h := ite_t c1_13 h
                        refine lv_tableIn (off := 129) (tgt := 130) hx hb d_P_wordOf_1 (by rw [c1_13]; decide) (by rw [c1_13]; decide) (by rw [c1_13]; rfl) (by decide) ?_
                        refine hc_s (i := 17) C hW rfl (by decide) rfl rfl d_P_wordOf_130 ?_
                        have h := Option.some.inj h
                        subst h
                        exact he_r C hW hS d_P_wordOf_132
                      · have h := ite_f c1_13 h
                        by_cases c1_14 : x0 = (14 : Int32)
                        · have h := ite_t c1_14 h
                          refine lv_tableIn (off := 132) (tgt := 133) hx hb d_P_wordOf_1 (by rw [c1_14]; decide) (by rw [c1_14]; decide) (by rw [c1_14]; rfl) (by decide) ?_
                          refine hc_s (i := 18) C hW rfl (by decide) rfl rfl d_P_wordOf_133 ?_
                          have h := Option.some.inj h
                          subst h
                          exact he_r C hW hS d_P_wordOf_135
                        · have h := ite_f c1_14 h
                          by_cases c1_15 : x0 = (15 : Int32)
                          · have h := ite_t c1_15 h
                            refine lv_tableIn (off := 135) (tgt := 136) hx hb d_P_wordOf_1 (by rw [c1_15]; decide) (by rw [c1_15]; decide) (by rw [c1_15]; rfl) (by decide) ?_
                            refine hc_s (i := 19) C hW rfl (by decide) rfl rfl d_P_wordOf_136 ?_
                            have h := Option.some.inj h
                            subst h
                            exact he_r C hW hS d_P_wordOf_138
                          · have h := ite_f c1_15 h
                            by_cases c1_16 : x0 = (16 : Int32)
                            · have h := ite_t c1_16 h
                              refine lv_tableIn (off := 138) (tgt := 139) hx hb d_P_wordOf_1 (by rw [c1_16]; decide) (by rw [c1_16]; decide) (by rw [c1_16]; rfl) (by decide) ?_
                              refine hc_s (i := 5) C hW rfl (by decide) rfl rfl d_P_wordOf_139 ?_
                              have h := Option.some.inj h
                              subst h
                              exact he_r C hW hS d_P_wordOf_141
                            · have h := ite_f c1_16 h
                              by_cases c1_17 : x0 = (17 : Int32)
                              · have h := ite_t c1_17 h
                                refine lv_tableIn (off := 141) (tgt := 142) hx hb d_P_wordOf_1 (by rw [c1_17]; decide) (by rw [c1_17]; decide) (by rw [c1_17]; rfl) (by decide) ?_
                                refine hc_s (i := 6) C hW rfl (by decide) rfl rfl d_P_wordOf_142 ?_
                                have h := Option.some.inj h
                                subst h
                                exact he_r C hW hS d_P_wordOf_144
                              · have h := ite_f c1_17 h
                                by_cases c1_18 : x0 = (18 : Int32)
                                · have h := ite_t c1_18 h
                                  refine lv_tableIn (off := 144) (tgt := 145) hx hb d_P_wordOf_1 (by rw [c1_18]; decide) (by rw [c1_18]; decide) (by rw [c1_18]; rfl) (by decide) ?_
                                  refine hc_s (i := 20) C hW rfl (by decide) rfl rfl d_P_wordOf_145 ?_
                                  have h := Option.some.inj h
                                  subst h
                                  exact he_r C hW hS d_P_wordOf_147
                                · have h := ite_f c1_18 h
                                  by_cases c1_19 : x0 = (19 : Int32)
                                  · have h := ite_t c1_19 h
                                    refine lv_tableIn (off := 147) (tgt := 148) hx hb d_P_wordOf_1 (by rw [c1_19]; decide) (by rw [c1_19]; decide) (by rw [c1_19]; rfl) (by decide) ?_
                                    refine hc_s (i := 21) C hW rfl (by decide) rfl rfl d_P_wordOf_148 ?_
                                    have h := Option.some.inj h
                                    subst h
                                    exact he_r C hW hS d_P_wordOf_150
                                  · have h := ite_f c1_19 h
                                    by_cases c1_20 : x0 = (20 : Int32)
                                    · have h := ite_t c1_20 h
                                      refine lv_tableIn (off := 120) (tgt := 121) hx hb d_P_wordOf_1 (by rw [c1_20]; decide) (by rw [c1_20]; decide) (by rw [c1_20]; rfl) (by decide) ?_
                                      refine hc_s (i := 14) C hW rfl (by decide) rfl rfl d_P_wordOf_121 ?_
                                      have h := Option.some.inj h
                                      subst h
                                      exact he_r C hW hS d_P_wordOf_123
                                    · have h := ite_f c1_20 h
                                      by_cases c1_21 : x0 = (21 : Int32)
                                      · have h := ite_t c1_21 h
                                        refine lv_tableIn (off := 123) (tgt := 124) hx hb d_P_wordOf_1 (by rw [c1_21]; decide) (by rw [c1_21]; decide) (by rw [c1_21]; rfl) (by decide) ?_
                                        refine hc_s (i := 15) C hW rfl (by decide) rfl rfl d_P_wordOf_124 ?_
                                        have h := Option.some.inj h
                                        subst h
                                        exact he_r C hW hS d_P_wordOf_126
                                      · have h := ite_f c1_21 h
                                        by_cases c1_22 : x0 = (22 : Int32)
                                        · have h := ite_t c1_22 h
                                          refine lv_tableIn (off := 126) (tgt := 127) hx hb d_P_wordOf_1 (by rw [c1_22]; decide) (by rw [c1_22]; decide) (by rw [c1_22]; rfl) (by decide) ?_
                                          refine hc_s (i := 16) C hW rfl (by decide) rfl rfl d_P_wordOf_127 ?_
                                          have h := Option.some.inj h
                                          subst h
                                          exact he_r C hW hS d_P_wordOf_129
                                        · have h := ite_f c1_22 h
                                          by_cases c1_23 : x0 = (23 : Int32)
                                          · have h := ite_t c1_23 h
                                            refine lv_tableIn (off := 150) (tgt := 151) hx hb d_P_wordOf_1 (by rw [c1_23]; decide) (by rw [c1_23]; decide) (by rw [c1_23]; rfl) (by decide) ?_
                                            refine hc_s (i := 22) C hW rfl (by decide) rfl rfl d_P_wordOf_151 ?_
                                            have h := Option.some.inj h
                                            subst h
                                            exact he_r C hW hS d_P_wordOf_153
                                          · have h := ite_f c1_23 h
                                            refine lv_tableOut (tgt := 154) hx hb d_P_wordOf_1 (by have := lv_neT c1_3 (show ((3 : Int32)).toInt = 3 by decide); have := lv_neT c1_4 (show ((4 : Int32)).toInt = 4 by decide); have := lv_neT c1_5 (show ((5 : Int32)).toInt = 5 by decide); have := lv_neT c1_6 (show ((6 : Int32)).toInt = 6 by decide); have := lv_neT c1_7 (show ((7 : Int32)).toInt = 7 by decide); have := lv_neT c1_8 (show ((8 : Int32)).toInt = 8 by decide); have := lv_neT c1_9 (show ((9 : Int32)).toInt = 9 by decide); have := lv_neT c1_10 (show ((10 : Int32)).toInt = 10 by decide); have := lv_neT c1_11 (show ((11 : Int32)).toInt = 11 by decide); have := lv_neT c1_12 (show ((12 : Int32)).toInt = 12 by decide); have := lv_neT c1_13 (show ((13 : Int32)).toInt = 13 by decide); have := lv_neT c1_14 (show ((14 : Int32)).toInt = 14 by decide); have := lv_neT c1_15 (show ((15 : Int32)).toInt = 15 by decide); have := lv_neT c1_16 (show ((16 : Int32)).toInt = 16 by decide); have := lv_neT c1_17 (show ((17 : Int32)).toInt = 17 by decide); have := lv_neT c1_18 (show ((18 : Int32)).toInt = 18 by decide); have := lv_neT c1_19 (show ((19 : Int32)).toInt = 19 by decide); have := lv_neT c1_20 (show ((20 : Int32)).toInt = 20 by decide); have := lv_neT c1_21 (show ((21 : Int32)).toInt = 21 by decide); have := lv_neT c1_22 (show ((22 : Int32)).toInt = 22 by decide); have := lv_neT c1_23 (show ((23 : Int32)).toInt = 23 by decide); omega) (by decide) ?_
                                            refine hc_s (i := 23) C hW rfl (by decide) rfl rfl d_P_wordOf_154 ?_
                                            have h := Option.some.inj h
                                            subst h
                                            exact he_r C hW hS d_P_wordOf_156
end WK
def f_P_formOf (x0 : Int32) : Option Nat :=
  (if x0 = (10 : Int32) then
  some 324
  else
  (if x0 = (11 : Int32) then
  some 325
  else
  (if x0 = (12 : Int32) then
  some 326
  else
  (if x0 = (13 : Int32) then
  some 334
  else
  (if x0 = (14 : Int32) then
  some 327
  else
  (if x0 = (15 : Int32) then
  some 327
  else
  (if x0 = (16 : Int32) then
  some 328
  else
  (if x0 = (17 : Int32) then
  some 328
  else
  (if x0 = (18 : Int32) then
  some 329
  else
  (if x0 = (19 : Int32) then
  some 330
  else
  (if x0 = (20 : Int32) then
  some 331
  else
  (if x0 = (21 : Int32) then
  some 332
  else
  (if x0 = (22 : Int32) then
  some 333
  else
  (if x0 = (23 : Int32) then
  some 327
  else
  some 334))))))))))))))
section WK
variable {p : Program} {l : Launch} {e : Env} {s : State} {m : MethodId} {args : Array Value} {below : List Frame} {meth : Method} {c : Code} {D : va_G} {cA : Nat → ClassId} {z : Nat} {ac : Nat → Nat} {ad : Nat → Nat}
set_option maxHeartbeats 4000000 in
set_option maxRecDepth 100000 in
theorem s_P_formOf (x0 : Int32) {S : HS} {r : Nat} (h : f_P_formOf x0 = some r) : Met l y_P_formOf (.code y_P_formOf b_P_formOf 1 (some (.object "java/lang/String")) :: lw_g) (rmD 0 0 0) (PcH D cA z ac E1 ad [.int (x0)] S) (QN D cA z ac E1 ad (some (.ref (ad r))) S) 0 0 (zA z) := by
  refine Met.ofH (own := "TwoLevelParser") (by decide) rfl (Nat.le_of_ble_eq_true rfl) ?_
  intro p e s m args below meth c H ls C hW hS hl
  have hl : lv_has ls 1 [(0, .int (x0))] := hl
  obtain ⟨⟨hx, hb, hml, hown, hts⟩, hK, hr, hlo⟩ := id C
  unfold f_P_formOf at h
  refine lv_iload_n hx hb d_P_formOf_0 rfl (lv_at hl 0 rfl) ?_
  by_cases c1_10 : x0 = (10 : Int32)
  · have h := ite_t c1_10 h
    refine lv_tableIn (off := 71) (tgt := 72) hx hb d_P_formOf_1 (by rw [c1_10]; decide) (by rw [c1_10]; decide) (by rw [c1_10]; rfl) (by decide) ?_
    refine hc_s (i := 24) C hW rfl (by decide) rfl rfl d_P_formOf_72 ?_
    have h := Option.some.inj h
    subst h
    exact he_r C hW hS d_P_formOf_74
  · have h := ite_f c1_10 h
    by_cases c1_11 : x0 = (11 : Int32)
    · have h := ite_t c1_11 h
      refine lv_tableIn (off := 74) (tgt := 75) hx hb d_P_formOf_1 (by rw [c1_11]; decide) (by rw [c1_11]; decide) (by rw [c1_11]; rfl) (by decide) ?_
      refine hc_s (i := 25) C hW rfl (by decide) rfl rfl d_P_formOf_75 ?_
      have h := Option.some.inj h
      subst h
      exact he_r C hW hS d_P_formOf_77
    · have h := ite_f c1_11 h
      by_cases c1_12 : x0 = (12 : Int32)
      · have h := ite_t c1_12 h
        refine lv_tableIn (off := 77) (tgt := 78) hx hb d_P_formOf_1 (by rw [c1_12]; decide) (by rw [c1_12]; decide) (by rw [c1_12]; rfl) (by decide) ?_
        refine hc_s (i := 26) C hW rfl (by decide) rfl rfl d_P_formOf_78 ?_
        have h := Option.some.inj h
        subst h
        exact he_r C hW hS d_P_formOf_80
      · have h := ite_f c1_12 h
        by_cases c1_13 : x0 = (13 : Int32)
        · have h := ite_t c1_13 h
          refine lv_tableIn (off := 101) (tgt := 102) hx hb d_P_formOf_1 (by rw [c1_13]; decide) (by rw [c1_13]; decide) (by rw [c1_13]; rfl) (by decide) ?_
          refine hc_s (i := 34) C hW rfl (by decide) rfl rfl d_P_formOf_102 ?_
          have h := Option.some.inj h
          subst h
          exact he_r C hW hS d_P_formOf_104
        · have h := ite_f c1_13 h
          by_cases c1_14 : x0 = (14 : Int32)
          · have h := ite_t c1_14 h
            refine lv_tableIn (off := 80) (tgt := 81) hx hb d_P_formOf_1 (by rw [c1_14]; decide) (by rw [c1_14]; decide) (by rw [c1_14]; rfl) (by decide) ?_
            refine hc_s (i := 27) C hW rfl (by decide) rfl rfl d_P_formOf_81 ?_
            have h := Option.some.inj h
            subst h
            exact he_r C hW hS d_P_formOf_83
          · have h := ite_f c1_14 h
            by_cases c1_15 : x0 = (15 : Int32)
            · have h := ite_t c1_15 h
              refine lv_tableIn (off := 80) (tgt := 81) hx hb d_P_formOf_1 (by rw [c1_15]; decide) (by rw [c1_15]; decide) (by rw [c1_15]; rfl) (by decide) ?_
              refine hc_s (i := 27) C hW rfl (by decide) rfl rfl d_P_formOf_81 ?_
              have h := Option.some.inj h
              subst h
              exact he_r C hW hS d_P_formOf_83
            · have h := ite_f c1_15 h
              by_cases c1_16 : x0 = (16 : Int32)
              · have h := ite_t c1_16 h
                refine lv_tableIn (off := 83) (tgt := 84) hx hb d_P_formOf_1 (by rw [c1_16]; decide) (by rw [c1_16]; decide) (by rw [c1_16]; rfl) (by decide) ?_
                refine hc_s (i := 28) C hW rfl (by decide) rfl rfl d_P_formOf_84 ?_
                have h := Option.some.inj h
                subst h
                exact he_r C hW hS d_P_formOf_86
              · have h := ite_f c1_16 h
                by_cases c1_17 : x0 = (17 : Int32)
                · have h := ite_t c1_17 h
                  refine lv_tableIn (off := 83) (tgt := 84) hx hb d_P_formOf_1 (by rw [c1_17]; decide) (by rw [c1_17]; decide) (by rw [c1_17]; rfl) (by decide) ?_
                  refine hc_s (i := 28) C hW rfl (by decide) rfl rfl d_P_formOf_84 ?_
                  have h := Option.some.inj h
                  subst h
                  exact he_r C hW hS d_P_formOf_86
                · have h := ite_f c1_17 h
                  by_cases c1_18 : x0 = (18 : Int32)
                  · have h := ite_t c1_18 h
                    refine lv_tableIn (off := 86) (tgt := 87) hx hb d_P_formOf_1 (by rw [c1_18]; decide) (by rw [c1_18]; decide) (by rw [c1_18]; rfl) (by decide) ?_
                    refine hc_s (i := 29) C hW rfl (by decide) rfl rfl d_P_formOf_87 ?_
                    have h := Option.some.inj h
                    subst h
                    exact he_r C hW hS d_P_formOf_89
                  · have h := ite_f c1_18 h
                    by_cases c1_19 : x0 = (19 : Int32)
                    · have h := ite_t c1_19 h
                      refine lv_tableIn (off := 89) (tgt := 90) hx hb d_P_formOf_1 (by rw [c1_19]; decide) (by rw [c1_19]; decide) (by rw [c1_19]; rfl) (by decide) ?_
                      refine hc_s (i := 30) C hW rfl (by decide) rfl rfl d_P_formOf_90 ?_
                      have h := Option.some.inj h
                      subst h
                      exact he_r C hW hS d_P_formOf_92
                    · have h := ite_f c1_19 h
                      by_cases c1_20 : x0 = (20 : Int32)
                      · have h := ite_t c1_20 h
                        refine lv_tableIn (off := 92) (tgt := 93) hx hb d_P_formOf_1 (by rw [c1_20]; decide) (by rw [c1_20]; decide) (by rw [c1_20]; rfl) (by decide) ?_
                        refine hc_s (i := 31) C hW rfl (by decide) rfl rfl d_P_formOf_93 ?_
                        have h := Option.some.inj h
                        subst h
                        exact he_r C hW hS d_P_formOf_95
                      · have h := ite_f c1_20 h
                        by_cases c1_21 : x0 = (21 : Int32)
                        · have h := ite_t c1_21 h
                          refine lv_tableIn (off := 95) (tgt := 96) hx hb d_P_formOf_1 (by rw [c1_21]; decide) (by rw [c1_21]; decide) (by rw [c1_21]; rfl) (by decide) ?_
                          refine hc_s (i := 32) C hW rfl (by decide) rfl rfl d_P_formOf_96 ?_
                          have h := Option.some.inj h
                          subst h
                          exact he_r C hW hS d_P_formOf_98
                        · have h := ite_f c1_21 h
                          by_cases c1_22 : x0 = (22 : Int32)
                          · have h := ite_t c1_22 h
                            refine lv_tableIn (off := 98) (tgt := 99) hx hb d_P_formOf_1 (by rw [c1_22]; decide) (by rw [c1_22]; decide) (by rw [c1_22]; rfl) (by decide) ?_
                            refine hc_s (i := 33) C hW rfl (by decide) rfl rfl d_P_formOf_99 ?_
                            have h := Option.some.inj h
                            subst h
                            exact he_r C hW hS d_P_formOf_101
                          · have h := ite_f c1_22 h
                            by_cases c1_23 : x0 = (23 : Int32)
                            · have h := ite_t c1_23 h
                              refine lv_tableIn (off := 80) (tgt := 81) hx hb d_P_formOf_1 (by rw [c1_23]; decide) (by rw [c1_23]; decide) (by rw [c1_23]; rfl) (by decide) ?_
                              refine hc_s (i := 27) C hW rfl (by decide) rfl rfl d_P_formOf_81 ?_
                              have h := Option.some.inj h
                              subst h
                              exact he_r C hW hS d_P_formOf_83
                            · have h := ite_f c1_23 h
                              refine lv_tableOut (tgt := 102) hx hb d_P_formOf_1 (by have := lv_neT c1_10 (show ((10 : Int32)).toInt = 10 by decide); have := lv_neT c1_11 (show ((11 : Int32)).toInt = 11 by decide); have := lv_neT c1_12 (show ((12 : Int32)).toInt = 12 by decide); have := lv_neT c1_13 (show ((13 : Int32)).toInt = 13 by decide); have := lv_neT c1_14 (show ((14 : Int32)).toInt = 14 by decide); have := lv_neT c1_15 (show ((15 : Int32)).toInt = 15 by decide); have := lv_neT c1_16 (show ((16 : Int32)).toInt = 16 by decide); have := lv_neT c1_17 (show ((17 : Int32)).toInt = 17 by decide); have := lv_neT c1_18 (show ((18 : Int32)).toInt = 18 by decide); have := lv_neT c1_19 (show ((19 : Int32)).toInt = 19 by decide); have := lv_neT c1_20 (show ((20 : Int32)).toInt = 20 by decide); have := lv_neT c1_21 (show ((21 : Int32)).toInt = 21 by decide); have := lv_neT c1_22 (show ((22 : Int32)).toInt = 22 by decide); have := lv_neT c1_23 (show ((23 : Int32)).toInt = 23 by decide); omega) (by decide) ?_
                              refine hc_s (i := 34) C hW rfl (by decide) rfl rfl d_P_formOf_102 ?_
                              have h := Option.some.inj h
                              subst h
                              exact he_r C hW hS d_P_formOf_104
end WK
def f_P_typeOf (n : Nat) (x0 : Int64) : Option Int32 :=
  ob (f_P_spelled n 303) fun r1 =>
  (if (lg_cmp x0 r1) = 0 then
  some (0 : Int32)
  else
  ob (f_P_spelled n 304) fun r2 =>
  (if (lg_cmp x0 r2) = 0 then
  some (1 : Int32)
  else
  ob (f_P_spelled n 305) fun r3 =>
  (if (lg_cmp x0 r3) = 0 then
  some (2 : Int32)
  else
  ob (f_P_spelled n 306) fun r4 =>
  (if (lg_cmp x0 r4) = 0 then
  some (3 : Int32)
  else
  some (-1 : Int32)))))
section WK
variable {p : Program} {l : Launch} {e : Env} {s : State} {m : MethodId} {args : Array Value} {below : List Frame} {meth : Method} {c : Code} {D : va_G} {cA : Nat → ClassId} {z : Nat} {ac : Nat → Nat} {ad : Nat → Nat}
set_option maxHeartbeats 4000000 in
set_option maxRecDepth 100000 in
theorem s_P_typeOf (n : Nat) (x0 : Int64) {S : HS} {r : Int32} (h : f_P_typeOf n x0 = some r) : Met l y_P_typeOf (.code y_P_typeOf b_P_typeOf 2 (some .int) :: lw_g) (rmD 5 0 0) (PcH D cA z ac E1 ad [.long (x0)] S) (QN D cA z ac E1 ad (some (.int r)) S) 0 0 (zA z) := by
  refine Met.ofH (own := "TwoLevelParser") (by decide) rfl (Nat.le_of_ble_eq_true rfl) ?_
  intro p e s m args below meth c H ls C hW hS hl
  have hl : lv_has ls 2 [(0, .long (x0))] := hl
  obtain ⟨⟨hx, hb, hml, hown, hts⟩, hK, hr, hlo⟩ := id C
  unfold f_P_typeOf at h
  refine lv_lload_n hx hb d_P_typeOf_0 rfl (lv_at hl 0 rfl) ?_
  refine hc_s (i := 3) C hW rfl (by decide) rfl rfl d_P_typeOf_1 ?_
  obtain ⟨r1, er1, h⟩ := ob_some h
  refine hx_S (As := [.ref (ad 303)]) (rest := [.long (x0)]) C hW hS (s_P_spelled n 303 er1) km_P_77 kv_P_spelled kn_P kw_P_spelled kd_P_spelled ⟨by decide, by decide⟩ ⟨Nat.zero_le _, Nat.zero_le _⟩ rfl hl.1 rfl (Nat.le_of_ble_eq_true rfl) d_P_typeOf_3 (fun H locs hW hS => ?_)
  refine W.lcmp hx hb d_P_typeOf_6 ?_
  refine lv_if_ne (tgt := 14) hx hb d_P_typeOf_7 (by decide) (fun c7 => ?_) (fun c7 => ?_)
  · have h := ite_f c7 h
    refine lv_lload_n hx hb d_P_typeOf_14 rfl (lv_at hl 0 rfl) ?_
    refine hc_s (i := 4) C hW rfl (by decide) rfl rfl d_P_typeOf_15 ?_
    obtain ⟨r2, er2, h⟩ := ob_some h
    refine hx_S (As := [.ref (ad 304)]) (rest := [.long (x0)]) C hW hS (s_P_spelled n 304 er2) km_P_77 kv_P_spelled kn_P kw_P_spelled kd_P_spelled ⟨by decide, by decide⟩ ⟨Nat.zero_le _, Nat.zero_le _⟩ rfl hl.1 rfl (Nat.le_of_ble_eq_true rfl) d_P_typeOf_17 (fun H locs hW hS => ?_)
    refine W.lcmp hx hb d_P_typeOf_20 ?_
    refine lv_if_ne (tgt := 28) hx hb d_P_typeOf_21 (by decide) (fun c21 => ?_) (fun c21 => ?_)
    · have h := ite_f c21 h
      refine lv_lload_n hx hb d_P_typeOf_28 rfl (lv_at hl 0 rfl) ?_
      refine hc_s (i := 5) C hW rfl (by decide) rfl rfl d_P_typeOf_29 ?_
      obtain ⟨r3, er3, h⟩ := ob_some h
      refine hx_S (As := [.ref (ad 305)]) (rest := [.long (x0)]) C hW hS (s_P_spelled n 305 er3) km_P_77 kv_P_spelled kn_P kw_P_spelled kd_P_spelled ⟨by decide, by decide⟩ ⟨Nat.zero_le _, Nat.zero_le _⟩ rfl hl.1 rfl (Nat.le_of_ble_eq_true rfl) d_P_typeOf_31 (fun H locs hW hS => ?_)
      refine W.lcmp hx hb d_P_typeOf_34 ?_
      refine lv_if_ne (tgt := 42) hx hb d_P_typeOf_35 (by decide) (fun c35 => ?_) (fun c35 => ?_)
      · have h := ite_f c35 h
        refine lv_lload_n hx hb d_P_typeOf_42 rfl (lv_at hl 0 rfl) ?_
        refine hc_s (i := 6) C hW rfl (by decide) rfl rfl d_P_typeOf_43 ?_
        obtain ⟨r4, er4, h⟩ := ob_some h
        refine hx_S (As := [.ref (ad 306)]) (rest := [.long (x0)]) C hW hS (s_P_spelled n 306 er4) km_P_77 kv_P_spelled kn_P kw_P_spelled kd_P_spelled ⟨by decide, by decide⟩ ⟨Nat.zero_le _, Nat.zero_le _⟩ rfl hl.1 rfl (Nat.le_of_ble_eq_true rfl) d_P_typeOf_45 (fun H locs hW hS => ?_)
        refine W.lcmp hx hb d_P_typeOf_48 ?_
        refine lv_if_ne (tgt := 56) hx hb d_P_typeOf_49 (by decide) (fun c49 => ?_) (fun c49 => ?_)
        · have h := ite_f c49 h
          refine lv_iconst (v := -1) hx hb d_P_typeOf_56 (by decide) ?_
          have h := Option.some.inj h
          subst h
          exact he_i C hW hS d_P_typeOf_57
        · have h := ite_t c49 h
          refine lv_iconst (v := 3) hx hb d_P_typeOf_52 (by decide) ?_
          refine lv_goto (tgt := 57) hx hb d_P_typeOf_53 (by decide) ?_
          have h := Option.some.inj h
          subst h
          exact he_i C hW hS d_P_typeOf_57
      · have h := ite_t c35 h
        refine lv_iconst (v := 2) hx hb d_P_typeOf_38 (by decide) ?_
        refine lv_goto (tgt := 57) hx hb d_P_typeOf_39 (by decide) ?_
        have h := Option.some.inj h
        subst h
        exact he_i C hW hS d_P_typeOf_57
    · have h := ite_t c21 h
      refine lv_iconst (v := 1) hx hb d_P_typeOf_24 (by decide) ?_
      refine lv_goto (tgt := 57) hx hb d_P_typeOf_25 (by decide) ?_
      have h := Option.some.inj h
      subst h
      exact he_i C hW hS d_P_typeOf_57
  · have h := ite_t c7 h
    refine lv_iconst (v := 0) hx hb d_P_typeOf_10 (by decide) ?_
    refine lv_goto (tgt := 57) hx hb d_P_typeOf_11 (by decide) ?_
    have h := Option.some.inj h
    subst h
    exact he_i C hW hS d_P_typeOf_57
end WK
def f_P_kindOf_b49 (n : Nat) (kc : Int64 → Int32 → Int32 → Int32 → Option Int32) (x0 : Int64) (x2 : Int32) (x4 : Int32) (y0 : Int32) : Option Int32 :=
  lt y0 fun v5 =>
  lt (x4 + 1) fun v6 =>
  kc x0 x2 v5 v6
def f_P_kindOf_b27 (n : Nat) (kc : Int64 → Int32 → Int32 → Int32 → Option Int32) (x0 : Int64) (x2 : Int32) (x3 : Int32) (x4 : Int32) (y0 : Int32) (y1 : Int32) : Option Int32 :=
  (if y0 ≤ y1 then
  some x3
  else
  ob (f_P_wordOf x4) fun r3 =>
  ob (f_P_spelled n r3) fun r4 =>
  (if (lg_cmp r4 x0) = 0 then
  f_P_kindOf_b49 n kc x0 x2 x4 x4
  else
  f_P_kindOf_b49 n kc x0 x2 x4 x3))
def f_P_kindOf_b14B (n : Nat) (kc : Int64 → Int32 → Int32 → Int32 → Option Int32) (x0 : Int64) (x2 : Int32) (x3 : Int32) (x4 : Int32) : Option Int32 :=
  (if x2 = 0 then
  f_P_kindOf_b27 n kc x0 x2 x3 x4 (24 : Int32) x4
  else
  f_P_kindOf_b27 n kc x0 x2 x3 x4 (18 : Int32) x4)
def f_P_kindOf_b14 (n : Nat) (k : Nat) : Int64 → Int32 → Int32 → Int32 → Option Int32 := lpF (fun _ _ _ _ => none) (f_P_kindOf_b14B n) k
def f_P_kindOf_b12 (n : Nat) (x0 : Int64) (x2 : Int32) (x3 : Int32) (y0 : Int32) : Option Int32 :=
  lt y0 fun v2 =>
  f_P_kindOf_b14 n n x0 x2 x3 v2
def f_P_kindOf (n : Nat) (x0 : Int64) (x2 : Int32) : Option Int32 :=
  lt (-1 : Int32) fun v1 =>
  (if x2 = 0 then
  f_P_kindOf_b12 n x0 x2 v1 (18 : Int32)
  else
  f_P_kindOf_b12 n x0 x2 v1 (3 : Int32))
section WK
variable {p : Program} {l : Launch} {e : Env} {s : State} {m : MethodId} {args : Array Value} {below : List Frame} {meth : Method} {c : Code} {D : va_G} {cA : Nat → ClassId} {z : Nat} {ac : Nat → Nat} {ad : Nat → Nat}
set_option maxHeartbeats 4000000 in
set_option maxRecDepth 100000 in
theorem w_P_kindOf_49 (C : CB p s m args c meth b_P_kindOf "TwoLevelParser" 5 (some .int) D cA z ac) (n : Nat) (kc : Int64 → Int32 → Int32 → Int32 → Option Int32) {r : Int32} (hk : ∀ (x0 : Int64) (x2 : Int32) (x3 : Int32) (x4 : Int32) (S : HS) {H : Heap} {locs : List Loc} {ls : Array Slot}, kc x0 x2 x3 x4 = some r → HW D cA z ac E1 ad S H → va_S (zA z) s.heap H locs → lv_has ls 5 [(0, .long (x0)), (2, .int (x2)), (3, .int (x3)), (4, .int (x4))] → GW p l e 5 s m args below meth c D cA z ac E1 ad (some (.int r)) S H locs (F0 m 14 ls [])) (x0 : Int64) (x2 : Int32) (x4 : Int32) (y0 : Int32) {S : HS} {H : Heap} {locs : List Loc} {ls : Array Slot} (h : f_P_kindOf_b49 n kc x0 x2 x4 y0 = some r) (hW : HW D cA z ac E1 ad S H) (hS : va_S (zA z) s.heap H locs) (hl : lv_has ls 5 [(0, .long (x0)), (2, .int (x2)), (4, .int (x4))]) : GW p l e 5 s m args below meth c D cA z ac E1 ad (some (.int r)) S H locs (F0 m 49 ls [.int (y0)]) := by
  obtain ⟨⟨hx, hb, hml, hown, hts⟩, hK, hr, hlo⟩ := id C
  unfold f_P_kindOf_b49 at h
  obtain ⟨v5, ev5, h⟩ := lt_some h
  refine lt_i_n (lv' := [(3, .int (v5)), (0, .long (x0)), (2, .int (x2)), (4, .int (x4))]) C d_P_kindOf_49 rfl hl (by decide) ev5 rfl (fun ls hl => ?_)
  obtain ⟨v6, ev6, h⟩ := lt_some h
  refine lv_iinc (v := v6) (lv' := [(4, .int (v6)), (3, .int (v5)), (0, .long (x0)), (2, .int (x2))]) hx hb d_P_kindOf_50 hl (k := 3) rfl (by rw [ev6]; rfl) (by decide) rfl (fun ls hl => ?_)
  refine lv_goto (tgt := 14) hx hb d_P_kindOf_53 (by decide) ?_
  exact hk _ _ _ _ _ h hW hS (lv_sub hl [2, 3, 1, 0] rfl)
set_option maxHeartbeats 4000000 in
set_option maxRecDepth 100000 in
theorem w_P_kindOf_27 (C : CB p s m args c meth b_P_kindOf "TwoLevelParser" 5 (some .int) D cA z ac) (n : Nat) (kc : Int64 → Int32 → Int32 → Int32 → Option Int32) {r : Int32} (hk : ∀ (x0 : Int64) (x2 : Int32) (x3 : Int32) (x4 : Int32) (S : HS) {H : Heap} {locs : List Loc} {ls : Array Slot}, kc x0 x2 x3 x4 = some r → HW D cA z ac E1 ad S H → va_S (zA z) s.heap H locs → lv_has ls 5 [(0, .long (x0)), (2, .int (x2)), (3, .int (x3)), (4, .int (x4))] → GW p l e 5 s m args below meth c D cA z ac E1 ad (some (.int r)) S H locs (F0 m 14 ls [])) (x0 : Int64) (x2 : Int32) (x3 : Int32) (x4 : Int32) (y0 : Int32) (y1 : Int32) {S : HS} {H : Heap} {locs : List Loc} {ls : Array Slot} (h : f_P_kindOf_b27 n kc x0 x2 x3 x4 y0 y1 = some r) (hW : HW D cA z ac E1 ad S H) (hS : va_S (zA z) s.heap H locs) (hl : lv_has ls 5 [(0, .long (x0)), (2, .int (x2)), (3, .int (x3)), (4, .int (x4))]) : GW p l e 5 s m args below meth c D cA z ac E1 ad (some (.int r)) S H locs (F0 m 27 ls [.int (y0), .int (y1)]) := by
  obtain ⟨⟨hx, hb, hml, hown, hts⟩, hK, hr, hlo⟩ := id C
  unfold f_P_kindOf_b27 at h
  refine lv_icmp_ge (tgt := 56) hx hb d_P_kindOf_27 (by decide) (fun c27 => ?_) (fun c27 => ?_)
  · have h := ite_t c27 h
    refine lv_iload_n hx hb d_P_kindOf_56 rfl (lv_at hl 2 rfl) ?_
    have h := Option.some.inj h
    subst h
    exact he_i C hW hS d_P_kindOf_57
  · have h := ite_f c27 h
    refine lv_iload hx hb d_P_kindOf_30 (lv_at hl 3 rfl) ?_
    obtain ⟨r3, er3, h⟩ := ob_some h
    refine hx_S (As := [.int (x4)]) (rest := []) C hW hS (s_P_wordOf x4 er3) km_P_85 kv_P_wordOf kn_P kw_P_wordOf kd_P_wordOf ⟨by decide, by decide⟩ ⟨Nat.zero_le _, Nat.zero_le _⟩ rfl hl.1 rfl (Nat.le_of_ble_eq_true rfl) d_P_kindOf_32 (fun H locs hW hS => ?_)
    obtain ⟨r4, er4, h⟩ := ob_some h
    refine hx_S (As := [.ref (ad r3)]) (rest := []) C hW hS (s_P_spelled n r3 er4) km_P_77 kv_P_spelled kn_P kw_P_spelled kd_P_spelled ⟨by decide, by decide⟩ ⟨Nat.zero_le _, Nat.zero_le _⟩ rfl hl.1 rfl (Nat.le_of_ble_eq_true rfl) d_P_kindOf_35 (fun H locs hW hS => ?_)
    refine lv_lload_n hx hb d_P_kindOf_38 rfl (lv_at hl 0 rfl) ?_
    refine W.lcmp hx hb d_P_kindOf_39 ?_
    refine lv_if_ne (tgt := 48) hx hb d_P_kindOf_40 (by decide) (fun c40 => ?_) (fun c40 => ?_)
    · have h := ite_f c40 h
      refine lv_iload_n hx hb d_P_kindOf_48 rfl (lv_at hl 2 rfl) ?_
      exact w_P_kindOf_49 C n kc hk x0 x2 x4 x3 h hW hS (lv_sub hl [0, 1, 3] rfl)
    · have h := ite_t c40 h
      refine lv_iload hx hb d_P_kindOf_43 (lv_at hl 3 rfl) ?_
      refine lv_goto (tgt := 49) hx hb d_P_kindOf_45 (by decide) ?_
      exact w_P_kindOf_49 C n kc hk x0 x2 x4 x4 h hW hS (lv_sub hl [0, 1, 3] rfl)
set_option maxHeartbeats 4000000 in
set_option maxRecDepth 100000 in
theorem w_P_kindOf_14B (C : CB p s m args c meth b_P_kindOf "TwoLevelParser" 5 (some .int) D cA z ac) (n : Nat) (kc : Int64 → Int32 → Int32 → Int32 → Option Int32) {r : Int32} (hk : ∀ (x0 : Int64) (x2 : Int32) (x3 : Int32) (x4 : Int32) (S : HS) {H : Heap} {locs : List Loc} {ls : Array Slot}, kc x0 x2 x3 x4 = some r → HW D cA z ac E1 ad S H → va_S (zA z) s.heap H locs → lv_has ls 5 [(0, .long (x0)), (2, .int (x2)), (3, .int (x3)), (4, .int (x4))] → GW p l e 5 s m args below meth c D cA z ac E1 ad (some (.int r)) S H locs (F0 m 14 ls [])) (x0 : Int64) (x2 : Int32) (x3 : Int32) (x4 : Int32) {S : HS} {H : Heap} {locs : List Loc} {ls : Array Slot} (h : f_P_kindOf_b14B n kc x0 x2 x3 x4 = some r) (hW : HW D cA z ac E1 ad S H) (hS : va_S (zA z) s.heap H locs) (hl : lv_has ls 5 [(0, .long (x0)), (2, .int (x2)), (3, .int (x3)), (4, .int (x4))]) : GW p l e 5 s m args below meth c D cA z ac E1 ad (some (.int r)) S H locs (F0 m 14 ls []) := by
  obtain ⟨⟨hx, hb, hml, hown, hts⟩, hK, hr, hlo⟩ := id C
  unfold f_P_kindOf_b14B at h
  refine lv_iload hx hb d_P_kindOf_14 (lv_at hl 3 rfl) ?_
  refine lv_iload_n hx hb d_P_kindOf_16 rfl (lv_at hl 1 rfl) ?_
  refine lv_if_eq (tgt := 25) hx hb d_P_kindOf_17 (by decide) (fun c17 => ?_) (fun c17 => ?_)
  · have h := ite_t c17 h
    refine lv_bipush (v := 24) hx hb d_P_kindOf_25 (by decide) ?_
    exact w_P_kindOf_27 C n kc hk x0 x2 x3 x4 (24 : Int32) x4 h hW hS (lv_sub hl [0, 1, 2, 3] rfl)
  · have h := ite_f c17 h
    refine lv_bipush (v := 18) hx hb d_P_kindOf_20 (by decide) ?_
    refine lv_goto (tgt := 27) hx hb d_P_kindOf_22 (by decide) ?_
    exact w_P_kindOf_27 C n kc hk x0 x2 x3 x4 (18 : Int32) x4 h hW hS (lv_sub hl [0, 1, 2, 3] rfl)
set_option maxHeartbeats 4000000 in
set_option maxRecDepth 100000 in
theorem w_P_kindOf_14 (C : CB p s m args c meth b_P_kindOf "TwoLevelParser" 5 (some .int) D cA z ac) (n : Nat) (k : Nat) {r : Int32} : ∀ (x0 : Int64) (x2 : Int32) (x3 : Int32) (x4 : Int32) {S : HS} {H : Heap} {locs : List Loc} {ls : Array Slot}, f_P_kindOf_b14 n k x0 x2 x3 x4 = some r → HW D cA z ac E1 ad S H → va_S (zA z) s.heap H locs → lv_has ls 5 [(0, .long (x0)), (2, .int (x2)), (3, .int (x3)), (4, .int (x4))] → GW p l e 5 s m args below meth c D cA z ac E1 ad (some (.int r)) S H locs (F0 m 14 ls []) := by
  induction k with
  | zero => intro x0 x2 x3 x4 S H locs ls h; cases h
  | succ k ih => intro x0 x2 x3 x4 S H locs ls h hW hS hl; exact w_P_kindOf_14B C n (f_P_kindOf_b14 n k) (fun x0 x2 x3 x4 S H locs ls h hW hS hl => ih x0 x2 x3 x4 h hW hS hl) x0 x2 x3 x4 h hW hS hl
set_option maxHeartbeats 4000000 in
set_option maxRecDepth 100000 in
theorem w_P_kindOf_12 (C : CB p s m args c meth b_P_kindOf "TwoLevelParser" 5 (some .int) D cA z ac) (n : Nat) {r : Int32} (x0 : Int64) (x2 : Int32) (x3 : Int32) (y0 : Int32) {S : HS} {H : Heap} {locs : List Loc} {ls : Array Slot} (h : f_P_kindOf_b12 n x0 x2 x3 y0 = some r) (hW : HW D cA z ac E1 ad S H) (hS : va_S (zA z) s.heap H locs) (hl : lv_has ls 5 [(0, .long (x0)), (2, .int (x2)), (3, .int (x3))]) : GW p l e 5 s m args below meth c D cA z ac E1 ad (some (.int r)) S H locs (F0 m 12 ls [.int (y0)]) := by
  obtain ⟨⟨hx, hb, hml, hown, hts⟩, hK, hr, hlo⟩ := id C
  unfold f_P_kindOf_b12 at h
  obtain ⟨v2, ev2, h⟩ := lt_some h
  refine lt_i (lv' := [(4, .int (v2)), (0, .long (x0)), (2, .int (x2)), (3, .int (x3))]) C d_P_kindOf_12 hl (by decide) ev2 rfl (fun ls hl => ?_)
  exact w_P_kindOf_14 C n n x0 x2 x3 v2 h hW hS (lv_sub hl [1, 2, 3, 0] rfl)
set_option maxHeartbeats 4000000 in
set_option maxRecDepth 100000 in
theorem s_P_kindOf (n : Nat) (x0 : Int64) (x2 : Int32) {S : HS} {r : Int32} (h : f_P_kindOf n x0 x2 = some r) : Met l y_P_kindOf (.code y_P_kindOf b_P_kindOf 5 (some .int) :: lw_g) (rmD 5 0 0) (PcH D cA z ac E1 ad [.long (x0), .int (x2)] S) (QN D cA z ac E1 ad (some (.int r)) S) 0 0 (zA z) := by
  refine Met.ofH (own := "TwoLevelParser") (by decide) rfl (Nat.le_of_ble_eq_true rfl) ?_
  intro p e s m args below meth c H ls C hW hS hl
  have hl : lv_has ls 5 [(0, .long (x0)), (2, .int (x2))] := hl
  obtain ⟨⟨hx, hb, hml, hown, hts⟩, hK, hr, hlo⟩ := id C
  unfold f_P_kindOf at h
  refine lv_iconst (v := -1) hx hb d_P_kindOf_0 (by decide) ?_
  obtain ⟨v1, ev1, h⟩ := lt_some h
  refine lt_i_n (lv' := [(3, .int (v1)), (0, .long (x0)), (2, .int (x2))]) C d_P_kindOf_1 rfl hl (by decide) ev1 rfl (fun ls hl => ?_)
  refine lv_iload_n hx hb d_P_kindOf_2 rfl (lv_at hl 2 rfl) ?_
  refine lv_if_eq (tgt := 10) hx hb d_P_kindOf_3 (by decide) (fun c3 => ?_) (fun c3 => ?_)
  · have h := ite_t c3 h
    refine lv_bipush (v := 18) hx hb d_P_kindOf_10 (by decide) ?_
    exact w_P_kindOf_12 C n x0 x2 v1 (18 : Int32) h hW hS (lv_sub hl [1, 2, 0] rfl)
  · have h := ite_f c3 h
    refine lv_iconst (v := 3) hx hb d_P_kindOf_6 (by decide) ?_
    refine lv_goto (tgt := 12) hx hb d_P_kindOf_7 (by decide) ?_
    exact w_P_kindOf_12 C n x0 x2 v1 (3 : Int32) h hW hS (lv_sub hl [1, 2, 0] rfl)
end WK
def f_P_isFree_b42 (n : Nat) (x0 : Int64) (y0 : Int32) : Option Int32 :=
  lt y0 fun v5 =>
  (if v5 = 0 then
  ob (f_P_kindOf n x0 (1 : Int32)) fun r6 =>
  (if 0 ≤ r6 then
  some (0 : Int32)
  else
  ob (f_P_kindOf n x0 (0 : Int32)) fun r7 =>
  (if 0 ≤ r7 then
  some (0 : Int32)
  else
  some (1 : Int32)))
  else
  some (0 : Int32))
def f_P_isFree_b37 (n : Nat) (x0 : Int64) : Option Int32 :=
  f_P_isFree_b42 n x0 (1 : Int32)
def f_P_isFree (n : Nat) (x0 : Int64) : Option Int32 :=
  ob (f_P_spelled n 301) fun r1 =>
  (if (lg_cmp x0 r1) = 0 then
  f_P_isFree_b37 n x0
  else
  ob (f_P_spelled n 300) fun r2 =>
  (if (lg_cmp x0 r2) = 0 then
  f_P_isFree_b37 n x0
  else
  ob (f_P_spelled n 302) fun r3 =>
  (if (lg_cmp x0 r3) = 0 then
  f_P_isFree_b37 n x0
  else
  ob (f_P_typeOf n x0) fun r4 =>
  (if r4 < 0 then
  f_P_isFree_b42 n x0 (0 : Int32)
  else
  f_P_isFree_b37 n x0))))
section WK
variable {p : Program} {l : Launch} {e : Env} {s : State} {m : MethodId} {args : Array Value} {below : List Frame} {meth : Method} {c : Code} {D : va_G} {cA : Nat → ClassId} {z : Nat} {ac : Nat → Nat} {ad : Nat → Nat}
set_option maxHeartbeats 4000000 in
set_option maxRecDepth 100000 in
theorem w_P_isFree_42 (C : CB p s m args c meth b_P_isFree "TwoLevelParser" 3 (some .boolean) D cA z ac) (n : Nat) {r : Int32} (x0 : Int64) (y0 : Int32) {S : HS} {H : Heap} {locs : List Loc} {ls : Array Slot} (h : f_P_isFree_b42 n x0 y0 = some r) (hW : HW D cA z ac E1 ad S H) (hS : va_S (zA z) s.heap H locs) (hl : lv_has ls 3 [(0, .long (x0))]) : GW p l e 6 s m args below meth c D cA z ac E1 ad (some (.int r)) S H locs (F0 m 42 ls [.int (y0)]) := by
  obtain ⟨⟨hx, hb, hml, hown, hts⟩, hK, hr, hlo⟩ := id C
  unfold f_P_isFree_b42 at h
  obtain ⟨v5, ev5, h⟩ := lt_some h
  refine lt_i_n (lv' := [(2, .int (v5)), (0, .long (x0))]) C d_P_isFree_42 rfl hl (by decide) ev5 rfl (fun ls hl => ?_)
  refine lv_iload_n hx hb d_P_isFree_43 rfl (lv_at hl 0 rfl) ?_
  refine lv_if_ne (tgt := 67) hx hb d_P_isFree_44 (by decide) (fun c44 => ?_) (fun c44 => ?_)
  · have h := ite_f c44 h
    refine lv_iconst (v := 0) hx hb d_P_isFree_67 (by decide) ?_
    have h := Option.some.inj h
    subst h
    exact he_z C hW hS (by decide) d_P_isFree_68
  · have h := ite_t c44 h
    refine lv_lload_n hx hb d_P_isFree_47 rfl (lv_at hl 1 rfl) ?_
    refine lv_iconst (v := 1) hx hb d_P_isFree_48 (by decide) ?_
    obtain ⟨r6, er6, h⟩ := ob_some h
    refine hx_S (As := [.long (x0), .int ((1 : Int32))]) (rest := []) C hW hS (s_P_kindOf n x0 (1 : Int32) er6) km_P_99 kv_P_kindOf kn_P kw_P_kindOf kd_P_kindOf ⟨by decide, by decide⟩ ⟨Nat.zero_le _, Nat.zero_le _⟩ rfl hl.1 rfl (Nat.le_of_ble_eq_true rfl) d_P_isFree_49 (fun H locs hW hS => ?_)
    refine lv_if_ge (tgt := 67) hx hb d_P_isFree_52 (by decide) (fun c52 => ?_) (fun c52 => ?_)
    · have h := ite_t c52 h
      refine lv_iconst (v := 0) hx hb d_P_isFree_67 (by decide) ?_
      have h := Option.some.inj h
      subst h
      exact he_z C hW hS (by decide) d_P_isFree_68
    · have h := ite_f c52 h
      refine lv_lload_n hx hb d_P_isFree_55 rfl (lv_at hl 1 rfl) ?_
      refine lv_iconst (v := 0) hx hb d_P_isFree_56 (by decide) ?_
      obtain ⟨r7, er7, h⟩ := ob_some h
      refine hx_S (As := [.long (x0), .int ((0 : Int32))]) (rest := []) C hW hS (s_P_kindOf n x0 (0 : Int32) er7) km_P_99 kv_P_kindOf kn_P kw_P_kindOf kd_P_kindOf ⟨by decide, by decide⟩ ⟨Nat.zero_le _, Nat.zero_le _⟩ rfl hl.1 rfl (Nat.le_of_ble_eq_true rfl) d_P_isFree_57 (fun H locs hW hS => ?_)
      refine lv_if_ge (tgt := 67) hx hb d_P_isFree_60 (by decide) (fun c60 => ?_) (fun c60 => ?_)
      · have h := ite_t c60 h
        refine lv_iconst (v := 0) hx hb d_P_isFree_67 (by decide) ?_
        have h := Option.some.inj h
        subst h
        exact he_z C hW hS (by decide) d_P_isFree_68
      · have h := ite_f c60 h
        refine lv_iconst (v := 1) hx hb d_P_isFree_63 (by decide) ?_
        refine lv_goto (tgt := 68) hx hb d_P_isFree_64 (by decide) ?_
        have h := Option.some.inj h
        subst h
        exact he_z C hW hS (by decide) d_P_isFree_68
set_option maxHeartbeats 4000000 in
set_option maxRecDepth 100000 in
theorem w_P_isFree_37 (C : CB p s m args c meth b_P_isFree "TwoLevelParser" 3 (some .boolean) D cA z ac) (n : Nat) {r : Int32} (x0 : Int64) {S : HS} {H : Heap} {locs : List Loc} {ls : Array Slot} (h : f_P_isFree_b37 n x0 = some r) (hW : HW D cA z ac E1 ad S H) (hS : va_S (zA z) s.heap H locs) (hl : lv_has ls 3 [(0, .long (x0))]) : GW p l e 6 s m args below meth c D cA z ac E1 ad (some (.int r)) S H locs (F0 m 37 ls []) := by
  obtain ⟨⟨hx, hb, hml, hown, hts⟩, hK, hr, hlo⟩ := id C
  unfold f_P_isFree_b37 at h
  refine lv_iconst (v := 1) hx hb d_P_isFree_37 (by decide) ?_
  refine lv_goto (tgt := 42) hx hb d_P_isFree_38 (by decide) ?_
  exact w_P_isFree_42 C n x0 (1 : Int32) h hW hS (lv_sub hl [0] rfl)
set_option maxHeartbeats 4000000 in
set_option maxRecDepth 100000 in
theorem s_P_isFree (n : Nat) (x0 : Int64) {S : HS} {r : Int32} (h : f_P_isFree n x0 = some r) : Met l y_P_isFree (.code y_P_isFree b_P_isFree 3 (some .boolean) :: lw_g) (rmD 6 0 0) (PcH D cA z ac E1 ad [.long (x0)] S) (QN D cA z ac E1 ad (some (.int r)) S) 0 0 (zA z) := by
  refine Met.ofH (own := "TwoLevelParser") (by decide) rfl (Nat.le_of_ble_eq_true rfl) ?_
  intro p e s m args below meth c H ls C hW hS hl
  have hl : lv_has ls 3 [(0, .long (x0))] := hl
  obtain ⟨⟨hx, hb, hml, hown, hts⟩, hK, hr, hlo⟩ := id C
  unfold f_P_isFree at h
  refine lv_lload_n hx hb d_P_isFree_0 rfl (lv_at hl 0 rfl) ?_
  refine hc_s (i := 1) C hW rfl (by decide) rfl rfl d_P_isFree_1 ?_
  obtain ⟨r1, er1, h⟩ := ob_some h
  refine hx_S (As := [.ref (ad 301)]) (rest := [.long (x0)]) C hW hS (s_P_spelled n 301 er1) km_P_77 kv_P_spelled kn_P kw_P_spelled kd_P_spelled ⟨by decide, by decide⟩ ⟨Nat.zero_le _, Nat.zero_le _⟩ rfl hl.1 rfl (Nat.le_of_ble_eq_true rfl) d_P_isFree_3 (fun H locs hW hS => ?_)
  refine W.lcmp hx hb d_P_isFree_6 ?_
  refine lv_if_eq (tgt := 37) hx hb d_P_isFree_7 (by decide) (fun c7 => ?_) (fun c7 => ?_)
  · have h := ite_t c7 h
    exact w_P_isFree_37 C n x0 h hW hS (lv_sub hl [0] rfl)
  · have h := ite_f c7 h
    refine lv_lload_n hx hb d_P_isFree_10 rfl (lv_at hl 0 rfl) ?_
    refine hc_s (i := 0) C hW rfl (by decide) rfl rfl d_P_isFree_11 ?_
    obtain ⟨r2, er2, h⟩ := ob_some h
    refine hx_S (As := [.ref (ad 300)]) (rest := [.long (x0)]) C hW hS (s_P_spelled n 300 er2) km_P_77 kv_P_spelled kn_P kw_P_spelled kd_P_spelled ⟨by decide, by decide⟩ ⟨Nat.zero_le _, Nat.zero_le _⟩ rfl hl.1 rfl (Nat.le_of_ble_eq_true rfl) d_P_isFree_13 (fun H locs hW hS => ?_)
    refine W.lcmp hx hb d_P_isFree_16 ?_
    refine lv_if_eq (tgt := 37) hx hb d_P_isFree_17 (by decide) (fun c17 => ?_) (fun c17 => ?_)
    · have h := ite_t c17 h
      exact w_P_isFree_37 C n x0 h hW hS (lv_sub hl [0] rfl)
    · have h := ite_f c17 h
      refine lv_lload_n hx hb d_P_isFree_20 rfl (lv_at hl 0 rfl) ?_
      refine hc_s (i := 2) C hW rfl (by decide) rfl rfl d_P_isFree_21 ?_
      obtain ⟨r3, er3, h⟩ := ob_some h
      refine hx_S (As := [.ref (ad 302)]) (rest := [.long (x0)]) C hW hS (s_P_spelled n 302 er3) km_P_77 kv_P_spelled kn_P kw_P_spelled kd_P_spelled ⟨by decide, by decide⟩ ⟨Nat.zero_le _, Nat.zero_le _⟩ rfl hl.1 rfl (Nat.le_of_ble_eq_true rfl) d_P_isFree_23 (fun H locs hW hS => ?_)
      refine W.lcmp hx hb d_P_isFree_26 ?_
      refine lv_if_eq (tgt := 37) hx hb d_P_isFree_27 (by decide) (fun c27 => ?_) (fun c27 => ?_)
      · have h := ite_t c27 h
        exact w_P_isFree_37 C n x0 h hW hS (lv_sub hl [0] rfl)
      · have h := ite_f c27 h
        refine lv_lload_n hx hb d_P_isFree_30 rfl (lv_at hl 0 rfl) ?_
        obtain ⟨r4, er4, h⟩ := ob_some h
        refine hx_S (As := [.long (x0)]) (rest := []) C hW hS (s_P_typeOf n x0 er4) km_P_95 kv_P_typeOf kn_P kw_P_typeOf kd_P_typeOf ⟨by decide, by decide⟩ ⟨Nat.zero_le _, Nat.zero_le _⟩ rfl hl.1 rfl (Nat.le_of_ble_eq_true rfl) d_P_isFree_31 (fun H locs hW hS => ?_)
        refine lv_if_lt (tgt := 41) hx hb d_P_isFree_34 (by decide) (fun c34 => ?_) (fun c34 => ?_)
        · have h := ite_t c34 h
          refine lv_iconst (v := 0) hx hb d_P_isFree_41 (by decide) ?_
          exact w_P_isFree_42 C n x0 (0 : Int32) h hW hS (lv_sub hl [0] rfl)
        · have h := ite_f c34 h
          exact w_P_isFree_37 C n x0 h hW hS (lv_sub hl [0] rfl)
end WK
def f_P_isWord (n : Nat) (x1 : Nat) (S : HS) : Option Int32 :=
  ob (gX S 1 3) fun j1 =>
  gd (isSo j1 ∧ isSo 502) (if j1 = 502 then
  ob (f_P_spelled n x1) fun r3 =>
  (if (lg_cmp (gL S 1 5) r3) = 0 then
  some (1 : Int32)
  else
  some (0 : Int32))
  else
  some (0 : Int32))
section WK
variable {p : Program} {l : Launch} {e : Env} {s : State} {m : MethodId} {args : Array Value} {below : List Frame} {meth : Method} {c : Code} {D : va_G} {cA : Nat → ClassId} {z : Nat} {ac : Nat → Nat} {ad : Nat → Nat}
set_option maxHeartbeats 4000000 in
set_option maxRecDepth 100000 in
theorem s_P_isWord (n : Nat) (x1 : Nat) {S : HS} {r : Int32} (h : f_P_isWord n x1 S = some r) : Met l y_P_isWord (.code y_P_isWord b_P_isWord 2 (some .boolean) :: lw_g) (rmD 5 0 0) (PcH D cA z ac E1 ad [.ref (ad 0), .ref (ad x1)] S) (QN D cA z ac E1 ad (some (.int r)) S) 0 0 (zA z) := by
  refine Met.ofH (own := "TwoLevelParser") (by decide) rfl (Nat.le_of_ble_eq_true rfl) ?_
  intro p e s m args below meth c H ls C hW hS hl
  have hl : lv_has ls 2 [(0, .ref (ad 0)), (1, .ref (ad x1))] := hl
  obtain ⟨⟨hx, hb, hml, hown, hts⟩, hK, hr, hlo⟩ := id C
  unfold f_P_isWord at h
  refine lv_aload_n hx hb d_P_isWord_0 rfl (lv_at hl 0 rfl) ?_
  refine hg_r (j := 1) C hW 0 0 (hW.fx 0 rfl) rfl q_P (by decide) rfl (hW.fn (E := E1) (i := 0) (k := 0) rfl) (lkF C kf_P_112) d_P_isWord_1 ?_
  obtain ⟨j1, ej1, h⟩ := ob_some h
  refine hg_r (j := j1) C hW 1 3 (hW.fx 1 rfl) rfl q_X (by decide) rfl ej1 (lkN C kf_P_149) d_P_isWord_4 ?_
  refine hc_so (i := 2) C hW hS (by decide) kf_P_162 d_P_isWord_7 ?_
  obtain ⟨g2, h⟩ := gd_some h
  refine hj_ne (tgt := 32) C hW g2.1 g2.2 d_P_isWord_10 (by decide) (fun c10 => ?_) (fun c10 => ?_)
  · have h := ite_t c10 h
    refine lv_aload_n hx hb d_P_isWord_13 rfl (lv_at hl 0 rfl) ?_
    refine hg_r (j := 1) C hW 0 0 (hW.fx 0 rfl) rfl q_P (by decide) rfl (hW.fn (E := E1) (i := 0) (k := 0) rfl) (lkF C kf_P_112) d_P_isWord_14 ?_
    refine hg_l C hW 1 5 (hW.fx 1 rfl) rfl q_X (by decide) rfl (lkN C kf_P_165) d_P_isWord_17 ?_
    refine lv_aload_n hx hb d_P_isWord_20 rfl (lv_at hl 1 rfl) ?_
    obtain ⟨r3, er3, h⟩ := ob_some h
    refine hx_S (As := [.ref (ad x1)]) (rest := [.long ((gL S 1 5))]) C hW hS (s_P_spelled n x1 er3) km_P_77 kv_P_spelled kn_P kw_P_spelled kd_P_spelled ⟨by decide, by decide⟩ ⟨Nat.zero_le _, Nat.zero_le _⟩ rfl hl.1 rfl (Nat.le_of_ble_eq_true rfl) d_P_isWord_21 (fun H locs hW hS => ?_)
    refine W.lcmp hx hb d_P_isWord_24 ?_
    refine lv_if_ne (tgt := 32) hx hb d_P_isWord_25 (by decide) (fun c25 => ?_) (fun c25 => ?_)
    · have h := ite_f c25 h
      refine lv_iconst (v := 0) hx hb d_P_isWord_32 (by decide) ?_
      have h := Option.some.inj h
      subst h
      exact he_z C hW hS (by decide) d_P_isWord_33
    · have h := ite_t c25 h
      refine lv_iconst (v := 1) hx hb d_P_isWord_28 (by decide) ?_
      refine lv_goto (tgt := 33) hx hb d_P_isWord_29 (by decide) ?_
      have h := Option.some.inj h
      subst h
      exact he_z C hW hS (by decide) d_P_isWord_33
  · have h := ite_f c10 h
    refine lv_iconst (v := 0) hx hb d_P_isWord_32 (by decide) ?_
    have h := Option.some.inj h
    subst h
    exact he_z C hW hS (by decide) d_P_isWord_33
end WK
def f_P_pass (n : Nat) (x1 : Nat) (S : HS) : Option HS :=
  ob (gX S 1 3) fun j1 =>
  gd (isSo j1 ∧ isSo x1) (if j1 = x1 then
  (if (gF S 0 7) = 0 then
  ob (f_X_next n S) fun S3 =>
  some S3
  else
  some S)
  else
  ob (f_P_refuse S) fun S4 =>
  some S4)
section WK
variable {p : Program} {l : Launch} {e : Env} {s : State} {m : MethodId} {args : Array Value} {below : List Frame} {meth : Method} {c : Code} {D : va_G} {cA : Nat → ClassId} {z : Nat} {ac : Nat → Nat} {ad : Nat → Nat}
set_option maxHeartbeats 4000000 in
set_option maxRecDepth 100000 in
theorem s_P_pass (n : Nat) (x1 : Nat) {S : HS} {S' : HS} (h : f_P_pass n x1 S = some S') : Met l y_P_pass (.code y_P_pass b_P_pass 2 none :: lw_g) (rmD 2 0 0) (PcH D cA z ac E1 ad [.ref (ad 0), .ref (ad x1)] S) (QN D cA z ac E1 ad none S') 0 0 (zA z) := by
  refine Met.ofH (own := "TwoLevelParser") (by decide) rfl (Nat.le_of_ble_eq_true rfl) ?_
  intro p e s m args below meth c H ls C hW hS hl
  have hl : lv_has ls 2 [(0, .ref (ad 0)), (1, .ref (ad x1))] := hl
  obtain ⟨⟨hx, hb, hml, hown, hts⟩, hK, hr, hlo⟩ := id C
  unfold f_P_pass at h
  refine lv_aload_n hx hb d_P_pass_0 rfl (lv_at hl 0 rfl) ?_
  refine hg_r (j := 1) C hW 0 0 (hW.fx 0 rfl) rfl q_P (by decide) rfl (hW.fn (E := E1) (i := 0) (k := 0) rfl) (lkF C kf_P_112) d_P_pass_1 ?_
  obtain ⟨j1, ej1, h⟩ := ob_some h
  refine hg_r (j := j1) C hW 1 3 (hW.fx 1 rfl) rfl q_X (by decide) rfl ej1 (lkN C kf_P_149) d_P_pass_4 ?_
  refine lv_aload_n hx hb d_P_pass_7 rfl (lv_at hl 1 rfl) ?_
  obtain ⟨g2, h⟩ := gd_some h
  refine hj_eq (tgt := 18) C hW g2.1 g2.2 d_P_pass_8 (by decide) (fun c8 => ?_) (fun c8 => ?_)
  · have h := ite_t c8 h
    refine lv_aload_n hx hb d_P_pass_18 rfl (lv_at hl 0 rfl) ?_
    refine hg_i C hW 0 7 (hW.fx 0 rfl) rfl q_P (by decide) rfl (lkF C kf_P_146) d_P_pass_19 ?_
    refine lv_if_ne (tgt := 32) hx hb d_P_pass_22 (by decide) (fun c22 => ?_) (fun c22 => ?_)
    · have h := ite_f c22 h
      have h := Option.some.inj h
      subst h
      exact he_v C hW hS d_P_pass_32
    · have h := ite_t c22 h
      refine lv_aload_n hx hb d_P_pass_25 rfl (lv_at hl 0 rfl) ?_
      refine hg_r (j := 1) C hW 0 0 (hW.fx 0 rfl) rfl q_P (by decide) rfl (hW.fn (E := E1) (i := 0) (k := 0) rfl) (lkF C kf_P_112) d_P_pass_26 ?_
      obtain ⟨S3, eS3, h⟩ := ob_some h
      refine hx_V (i := 1) (As := []) (rest := []) C hW hS (s_X_next n eS3) km_P_172 kv_X_next ke_X_next kn_X kw_X_next kd_X_next (hW.fx 1 rfl) rfl q_X rfl ⟨by decide, by decide⟩ ⟨Nat.zero_le _, Nat.zero_le _⟩ rfl hl.1 rfl (Nat.le_of_ble_eq_true rfl) d_P_pass_29 (fun H locs hW hS => ?_)
      have h := Option.some.inj h
      subst h
      exact he_v C hW hS d_P_pass_32
  · have h := ite_f c8 h
    refine lv_aload_n hx hb d_P_pass_11 rfl (lv_at hl 0 rfl) ?_
    obtain ⟨S4, eS4, h⟩ := ob_some h
    refine hx_V (i := 0) (As := []) (rest := []) C hW hS (s_P_refuse eS4) km_P_169 kv_P_refuse ke_P_refuse kn_P kw_P_refuse kd_P_refuse (hW.fx 0 rfl) rfl q_P rfl ⟨by decide, by decide⟩ ⟨Nat.zero_le _, Nat.zero_le _⟩ rfl hl.1 rfl (Nat.le_of_ble_eq_true rfl) d_P_pass_12 (fun H locs hW hS => ?_)
    refine lv_goto (tgt := 32) hx hb d_P_pass_15 (by decide) ?_
    have h := Option.some.inj h
    subst h
    exact he_v C hW hS d_P_pass_32
end WK
def f_P_isName (n : Nat) (S : HS) : Option Int32 :=
  ob (gX S 1 3) fun j1 =>
  gd (isSo j1 ∧ isSo 502) (if j1 = 502 then
  ob (f_P_isFree n (gL S 1 5)) fun r3 =>
  (if r3 = 0 then
  some (0 : Int32)
  else
  some (1 : Int32))
  else
  some (0 : Int32))
section WK
variable {p : Program} {l : Launch} {e : Env} {s : State} {m : MethodId} {args : Array Value} {below : List Frame} {meth : Method} {c : Code} {D : va_G} {cA : Nat → ClassId} {z : Nat} {ac : Nat → Nat} {ad : Nat → Nat}
set_option maxHeartbeats 4000000 in
set_option maxRecDepth 100000 in
theorem s_P_isName (n : Nat) {S : HS} {r : Int32} (h : f_P_isName n S = some r) : Met l y_P_isName (.code y_P_isName b_P_isName 1 (some .boolean) :: lw_g) (rmD 7 0 0) (PcH D cA z ac E1 ad [.ref (ad 0)] S) (QN D cA z ac E1 ad (some (.int r)) S) 0 0 (zA z) := by
  refine Met.ofH (own := "TwoLevelParser") (by decide) rfl (Nat.le_of_ble_eq_true rfl) ?_
  intro p e s m args below meth c H ls C hW hS hl
  have hl : lv_has ls 1 [(0, .ref (ad 0))] := hl
  obtain ⟨⟨hx, hb, hml, hown, hts⟩, hK, hr, hlo⟩ := id C
  unfold f_P_isName at h
  refine lv_aload_n hx hb d_P_isName_0 rfl (lv_at hl 0 rfl) ?_
  refine hg_r (j := 1) C hW 0 0 (hW.fx 0 rfl) rfl q_P (by decide) rfl (hW.fn (E := E1) (i := 0) (k := 0) rfl) (lkF C kf_P_112) d_P_isName_1 ?_
  obtain ⟨j1, ej1, h⟩ := ob_some h
  refine hg_r (j := j1) C hW 1 3 (hW.fx 1 rfl) rfl q_X (by decide) rfl ej1 (lkN C kf_P_149) d_P_isName_4 ?_
  refine hc_so (i := 2) C hW hS (by decide) kf_P_162 d_P_isName_7 ?_
  obtain ⟨g2, h⟩ := gd_some h
  refine hj_ne (tgt := 30) C hW g2.1 g2.2 d_P_isName_10 (by decide) (fun c10 => ?_) (fun c10 => ?_)
  · have h := ite_t c10 h
    refine lv_aload_n hx hb d_P_isName_13 rfl (lv_at hl 0 rfl) ?_
    refine hg_r (j := 1) C hW 0 0 (hW.fx 0 rfl) rfl q_P (by decide) rfl (hW.fn (E := E1) (i := 0) (k := 0) rfl) (lkF C kf_P_112) d_P_isName_14 ?_
    refine hg_l C hW 1 5 (hW.fx 1 rfl) rfl q_X (by decide) rfl (lkN C kf_P_165) d_P_isName_17 ?_
    obtain ⟨r3, er3, h⟩ := ob_some h
    refine hx_S (As := [.long ((gL S 1 5))]) (rest := []) C hW hS (s_P_isFree n (gL S 1 5) er3) km_P_175 kv_P_isFree kn_P kw_P_isFree kd_P_isFree ⟨by decide, by decide⟩ ⟨Nat.zero_le _, Nat.zero_le _⟩ rfl hl.1 rfl (Nat.le_of_ble_eq_true rfl) d_P_isName_20 (fun H locs hW hS => ?_)
    refine lv_if_eq (tgt := 30) hx hb d_P_isName_23 (by decide) (fun c23 => ?_) (fun c23 => ?_)
    · have h := ite_t c23 h
      refine lv_iconst (v := 0) hx hb d_P_isName_30 (by decide) ?_
      have h := Option.some.inj h
      subst h
      exact he_z C hW hS (by decide) d_P_isName_31
    · have h := ite_f c23 h
      refine lv_iconst (v := 1) hx hb d_P_isName_26 (by decide) ?_
      refine lv_goto (tgt := 31) hx hb d_P_isName_27 (by decide) ?_
      have h := Option.some.inj h
      subst h
      exact he_z C hW hS (by decide) d_P_isName_31
  · have h := ite_f c10 h
    refine lv_iconst (v := 0) hx hb d_P_isName_30 (by decide) ?_
    have h := Option.some.inj h
    subst h
    exact he_z C hW hS (by decide) d_P_isName_31
end WK
