-- printed by gen/law.py: the law's loop
abbrev GL (p : Program) (l : Launch) (e : Env) (s : State) (m : MethodId) (b : Nat) (below : List Frame) (meth : Method) (c : Code) (S0 S : HS) (H : Heap) (locs : List Loc) (g : JFrame) : Prop :=
  W p l e room_1 s m #[Value.ref b] below meth c H locs (gC S - gC S0) (gN S - gN S0) (lw_Z below #[Value.ref b] s) g
theorem lb_le {S S0 : HS} (h : gC S ≤ 600000 ∧ gN S ≤ 7302249) : gC S - gC S0 ≤ room_1.cells ∧ gN S - gN S0 ≤ room_1.slots := ⟨Nat.le_trans (Nat.sub_le _ _) h.1, Nat.le_trans (Nat.sub_le _ _) h.2⟩
theorem lb_k {S S2 : HS} (k : S2.2.2.2 = S.2.2.2) (h : gC S ≤ 600000 ∧ gN S ≤ 7302249) : gC S2 ≤ 600000 ∧ gN S2 ≤ 7302249 := by rw [gC_of k, gN_of k]; exact h
theorem law_end {p : Program} {l : Launch} {e : Env} {s : State} {m : MethodId} {below : List Frame} {meth : Method} {c : Code} {b z pc : Nat} {S S0 : HS} {H : Heap} {locs : List Loc} {ls : Array Slot} (hx : p.tables.exec = Jvm.exec) (hb : c.code = code) (hr : meth.sig.returnType = ret) (hlo : meth.locks = false) (hz : z = s.heap.size) (hS : va_S (zA z) s.heap H locs) (hB : gC S ≤ 600000 ∧ gN S ≤ 7302249) (hdg : decode code pc = .ok (.ireturn, 1)) :
    GL p l e s m b below meth c S0 S H locs (F0 m pc ls [.int 1]) := by
  refine va_forget (fun q hq => by rw [← hz]; exact hS.2.2 q hq) ?_
  refine W.widen (k := 600000) (n := 7302249) (lb_le hB).1 (lb_le hB).2 ?_
  exact lw_ret hx hb hr hlo hdg
def f_law_b388 (n : Nat) (xs : Nat → Int32) (L : Nat) (kc : Int32 → HS → Option Int32) (x3 : Int32) (S : HS) : Option Int32 :=
  lt (x3 + 4) fun v65 =>
  kc v65 S
def f_law_b18B (n : Nat) (xs : Nat → Int32) (L : Nat) (kc : Int32 → HS → Option Int32) (x3 : Int32) (S : HS) : Option Int32 :=
  (if ((nI L) - (4 : Int32)) < x3 then
  some (1 : Int32)
  else
  gd (inR x3 L) <|
  (if ((xs x3.toNatClampNeg) &&& (15 : Int32)) = (0 : Int32) then
  gd (inR (x3 + (1 : Int32)) L) <|
  gd (inR (x3 + (2 : Int32)) L) <|
  gd (inR (x3 + (3 : Int32)) L) <|
  ob2 (f_P_give n (((xs (x3 + (1 : Int32)).toNatClampNeg).toInt64 <<< ((32 : Int32).toInt64 &&& 63)) ||| ((xs (x3 + (2 : Int32)).toNatClampNeg).toInt64 &&& (4294967295 : Int64))) (xs (x3 + (3 : Int32)).toNatClampNeg) S) fun r6 S5 =>
  gd (inR (x3 + (1 : Int32)) L) <|
  gd (inR (x3 + (2 : Int32)) L) <|
  gd (inR (x3 + (3 : Int32)) L) <|
  ob2 (f_M_give n (((xs (x3 + (1 : Int32)).toNatClampNeg).toInt64 <<< ((32 : Int32).toInt64 &&& 63)) ||| ((xs (x3 + (2 : Int32)).toNatClampNeg).toInt64 &&& (4294967295 : Int64))) (xs (x3 + (3 : Int32)).toNatClampNeg) S5) fun r11 S10 =>
  (if r6 = r11 then
  f_law_b388 n xs L kc x3 S10
  else
  some (0 : Int32))
  else
  (if ((xs x3.toNatClampNeg) &&& (15 : Int32)) = (1 : Int32) then
  ob (f_P_wipe S) fun S12 =>
  ob (f_M_wipe S12) fun S13 =>
  f_law_b388 n xs L kc x3 S13
  else
  (if ((xs x3.toNatClampNeg) &&& (15 : Int32)) = (2 : Int32) then
  ob2 (f_P_read n S) fun r16 S14 =>
  gd (gC S14 ≤ 600000 ∧ gN S14 ≤ 7302249) <|
  ob2 (f_M_read n S14) fun r19 S18 =>
  (if r16 = r19 then
  f_law_b388 n xs L kc x3 S18
  else
  some (0 : Int32))
  else
  (if ((xs x3.toNatClampNeg) &&& (15 : Int32)) = (3 : Int32) then
  gd (inR (x3 + (1 : Int32)) L) <|
  gd (inR (x3 + (2 : Int32)) L) <|
  ob (f_P_definition (xs (x3 + (1 : Int32)).toNatClampNeg) (xs (x3 + (2 : Int32)).toNatClampNeg) S) fun r22 =>
  gd (inR (x3 + (1 : Int32)) L) <|
  gd (inR (x3 + (2 : Int32)) L) <|
  ob2 (f_M_definition (xs (x3 + (1 : Int32)).toNatClampNeg) (xs (x3 + (2 : Int32)).toNatClampNeg) S) fun r26 S25 =>
  (if r22 = r26 then
  f_law_b388 n xs L kc x3 S25
  else
  some (0 : Int32))
  else
  (if ((xs x3.toNatClampNeg) &&& (15 : Int32)) = (4 : Int32) then
  gd (inR (x3 + (1 : Int32)) L) <|
  gd (inR (x3 + (2 : Int32)) L) <|
  ob (f_P_title (xs (x3 + (1 : Int32)).toNatClampNeg) (xs (x3 + (2 : Int32)).toNatClampNeg) S) fun r29 =>
  gd (inR (x3 + (1 : Int32)) L) <|
  gd (inR (x3 + (2 : Int32)) L) <|
  ob2 (f_M_title (xs (x3 + (1 : Int32)).toNatClampNeg) (xs (x3 + (2 : Int32)).toNatClampNeg) S) fun r33 S32 =>
  (if (lg_cmp r29 r33) = 0 then
  f_law_b388 n xs L kc x3 S32
  else
  some (0 : Int32))
  else
  (if ((xs x3.toNatClampNeg) &&& (15 : Int32)) = (5 : Int32) then
  gd (inR (x3 + (1 : Int32)) L) <|
  gd (inR (x3 + (2 : Int32)) L) <|
  ob (f_P_parameter (xs (x3 + (1 : Int32)).toNatClampNeg) (xs (x3 + (2 : Int32)).toNatClampNeg) S) fun r36 =>
  gd (inR (x3 + (1 : Int32)) L) <|
  gd (inR (x3 + (2 : Int32)) L) <|
  ob2 (f_M_parameter (xs (x3 + (1 : Int32)).toNatClampNeg) (xs (x3 + (2 : Int32)).toNatClampNeg) S) fun r40 S39 =>
  (if r36 = r40 then
  f_law_b388 n xs L kc x3 S39
  else
  some (0 : Int32))
  else
  (if ((xs x3.toNatClampNeg) &&& (15 : Int32)) = (6 : Int32) then
  gd (inR (x3 + (1 : Int32)) L) <|
  gd (inR (x3 + (2 : Int32)) L) <|
  ob (f_P_node (xs (x3 + (1 : Int32)).toNatClampNeg) (xs (x3 + (2 : Int32)).toNatClampNeg) S) fun r43 =>
  gd (inR (x3 + (1 : Int32)) L) <|
  gd (inR (x3 + (2 : Int32)) L) <|
  ob2 (f_M_node n (xs (x3 + (1 : Int32)).toNatClampNeg) (xs (x3 + (2 : Int32)).toNatClampNeg) S) fun r47 S46 =>
  (if r43 = r47 then
  f_law_b388 n xs L kc x3 S46
  else
  some (0 : Int32))
  else
  (if ((xs x3.toNatClampNeg) &&& (15 : Int32)) = (7 : Int32) then
  gd (inR (x3 + (1 : Int32)) L) <|
  gd (inR (x3 + (2 : Int32)) L) <|
  ob (f_P_name (xs (x3 + (1 : Int32)).toNatClampNeg) (xs (x3 + (2 : Int32)).toNatClampNeg) S) fun r50 =>
  gd (inR (x3 + (1 : Int32)) L) <|
  gd (inR (x3 + (2 : Int32)) L) <|
  ob2 (f_M_name (xs (x3 + (1 : Int32)).toNatClampNeg) (xs (x3 + (2 : Int32)).toNatClampNeg) S) fun r54 S53 =>
  (if (lg_cmp r50 r54) = 0 then
  f_law_b388 n xs L kc x3 S53
  else
  some (0 : Int32))
  else
  (if ((xs x3.toNatClampNeg) &&& (15 : Int32)) = (8 : Int32) then
  gd (inR (x3 + (1 : Int32)) L) <|
  ob (f_P_number (xs (x3 + (1 : Int32)).toNatClampNeg) S) fun r56 =>
  gd (inR (x3 + (1 : Int32)) L) <|
  ob2 (f_M_number (xs (x3 + (1 : Int32)).toNatClampNeg) S) fun r59 S58 =>
  (if r56 = r59 then
  f_law_b388 n xs L kc x3 S58
  else
  some (0 : Int32))
  else
  (if ((xs x3.toNatClampNeg) &&& (15 : Int32)) = (9 : Int32) then
  gd (inR (x3 + (1 : Int32)) L) <|
  ob (f_P_look (xs (x3 + (1 : Int32)).toNatClampNeg) S) fun r61 =>
  gd (inR (x3 + (1 : Int32)) L) <|
  ob2 (f_M_look (xs (x3 + (1 : Int32)).toNatClampNeg) S) fun r64 S63 =>
  (if r61 = r64 then
  f_law_b388 n xs L kc x3 S63
  else
  some (0 : Int32))
  else
  f_law_b388 n xs L kc x3 S)))))))))))
def f_law_b18 (n : Nat) (xs : Nat → Int32) (L : Nat) (k : Nat) : Int32 → HS → Option Int32 := lpF (fun _ _ => none) (f_law_b18B n xs L) k
section LAW
variable {p : Program} {l : Launch} {e : Env} {s : State} {m : MethodId} {below : List Frame} {meth : Method} {c : Code} {D : va_G} {cA : Nat → ClassId} {z : Nat} {ac : Nat → Nat} {b L : Nat} {xs : Nat → Int32}
set_option maxHeartbeats 4000000 in
set_option maxRecDepth 100000 in
theorem w_law_388 {ad0 ad : Nat → Nat} {S0 : HS} (C : CB p s m #[Value.ref b] c meth code "TwoLevelParserLaw" 4 ret D cA z ac) (hX : va_X b L xs s s.heap) (hbl : b < s.heap.size) (hz : z = s.heap.size) (n : Nat) (kc : Int32 → HS → Option Int32) (hk : ∀ (x3 : Int32) (S : HS) {ad : Nat → Nat} {H : Heap} {locs : List Loc} {ls : Array Slot}, kc x3 S = some 1 → gC S ≤ 600000 ∧ gN S ≤ 7302249 → AC S0 ad0 S ad → HW D cA z ac E1 ad S H → va_S (zA z) s.heap H locs → lv_has ls 4 [(0, .ref b), (1, .ref (ad 0)), (2, .ref (ad 200)), (3, .int x3)] → GL p l e s m b below meth c S0 S H locs (F0 m 18 ls [])) (x3 : Int32) {S : HS} {H : Heap} {locs : List Loc} {ls : Array Slot} (h : f_law_b388 n xs L kc x3 S = some 1) (hB : gC S ≤ 600000 ∧ gN S ≤ 7302249) (hT : AC S0 ad0 S ad) (hW : HW D cA z ac E1 ad S H) (hS : va_S (zA z) s.heap H locs) (hl : lv_has ls 4 [(0, .ref b), (1, .ref (ad 0)), (2, .ref (ad 200)), (3, .int x3)]) : GL p l e s m b below meth c S0 S H locs (F0 m 388 ls []) := by
  obtain ⟨⟨hx, hb, hml, hown, hts⟩, hK, hr, hlo⟩ := id C
  have hbA : ¬ zA z b := by rw [hz]; exact Nat.not_le.mpr hbl
  unfold f_law_b388 at h
  obtain ⟨v65, ev65, h⟩ := lt_some h
  refine lv_iinc (v := v65) (lv' := [(3, .int (v65)), (0, .ref b), (1, .ref (ad 0)), (2, .ref (ad 200))]) hx hb d_law_388 hl (k := 3) rfl (by rw [ev65]; rfl) (by decide) rfl (fun ls hl => ?_)
  refine lv_goto (tgt := 18) hx hb d_law_391 (by decide) ?_
  exact hk _ _ h hB hT hW hS (lv_sub hl [1, 2, 3, 0] rfl)
set_option maxHeartbeats 4000000 in
set_option maxRecDepth 100000 in
theorem w_law_18B {ad0 ad : Nat → Nat} {S0 : HS} (C : CB p s m #[Value.ref b] c meth code "TwoLevelParserLaw" 4 ret D cA z ac) (hX : va_X b L xs s s.heap) (hbl : b < s.heap.size) (hz : z = s.heap.size) (n : Nat) (kc : Int32 → HS → Option Int32) (hk : ∀ (x3 : Int32) (S : HS) {ad : Nat → Nat} {H : Heap} {locs : List Loc} {ls : Array Slot}, kc x3 S = some 1 → gC S ≤ 600000 ∧ gN S ≤ 7302249 → AC S0 ad0 S ad → HW D cA z ac E1 ad S H → va_S (zA z) s.heap H locs → lv_has ls 4 [(0, .ref b), (1, .ref (ad 0)), (2, .ref (ad 200)), (3, .int x3)] → GL p l e s m b below meth c S0 S H locs (F0 m 18 ls [])) (x3 : Int32) {S : HS} {H : Heap} {locs : List Loc} {ls : Array Slot} (h : f_law_b18B n xs L kc x3 S = some 1) (hB : gC S ≤ 600000 ∧ gN S ≤ 7302249) (hT : AC S0 ad0 S ad) (hW : HW D cA z ac E1 ad S H) (hS : va_S (zA z) s.heap H locs) (hl : lv_has ls 4 [(0, .ref b), (1, .ref (ad 0)), (2, .ref (ad 200)), (3, .int x3)]) : GL p l e s m b below meth c S0 S H locs (F0 m 18 ls []) := by
  obtain ⟨⟨hx, hb, hml, hown, hts⟩, hK, hr, hlo⟩ := id C
  have hbA : ¬ zA z b := by rw [hz]; exact Nat.not_le.mpr hbl
  unfold f_law_b18B at h
  refine lv_iload_n hx hb d_law_18 rfl (lv_at hl 3 rfl) ?_
  refine lv_aload_n hx hb d_law_19 rfl (lv_at hl 0 rfl) ?_
  refine va_slen hx hb hX hbl hbA (hz ▸ hS) d_law_20 ?_
  refine lv_iconst (v := 4) hx hb d_law_21 (by decide) ?_
  refine lv_isub hx hb d_law_22 ?_
  refine lv_icmp_gt (tgt := 394) hx hb d_law_23 (by decide) (fun c23 => ?_) (fun c23 => ?_)
  · have h := ite_t c23 h
    refine lv_iconst (v := 1) hx hb d_law_394 (by decide) ?_
    exact law_end hx hb hr hlo hz hS hB d_law_395
  · have h := ite_f c23 h
    refine lv_aload_n hx hb d_law_26 rfl (lv_at hl 0 rfl) ?_
    refine lv_iload_n hx hb d_law_27 rfl (lv_at hl 3 rfl) ?_
    obtain ⟨g1, h⟩ := gd_some h
    refine va_sld hx hb hX hbl hbA (hz ▸ hS) g1 d_law_28 ?_
    refine lv_bipush (v := 15) hx hb d_law_29 (by decide) ?_
    refine lv_iand hx hb d_law_31 ?_
    by_cases c32_0 : ((xs x3.toNatClampNeg) &&& (15 : Int32)) = (0 : Int32)
    · have h := ite_t c32_0 h
      refine lv_tableIn (off := 56) (tgt := 88) hx hb d_law_32 (by rw [c32_0]; decide) (by rw [c32_0]; decide) (by rw [c32_0]; rfl) (by decide) ?_
      refine lv_aload_n hx hb d_law_88 rfl (lv_at hl 1 rfl) ?_
      refine lv_aload_n hx hb d_law_89 rfl (lv_at hl 0 rfl) ?_
      refine lv_iload_n hx hb d_law_90 rfl (lv_at hl 3 rfl) ?_
      refine lv_iconst (v := 1) hx hb d_law_91 (by decide) ?_
      refine lv_iadd hx hb d_law_92 ?_
      obtain ⟨g2, h⟩ := gd_some h
      refine va_sld hx hb hX hbl hbA (hz ▸ hS) g2 d_law_93 ?_
      refine lv_i2l (v := (xs (x3 + (1 : Int32)).toNatClampNeg).toInt64) hx hb d_law_94 rfl ?_
      refine lv_bipush (v := 32) hx hb d_law_95 (by decide) ?_
      refine lv_lshl (v := ((xs (x3 + (1 : Int32)).toNatClampNeg).toInt64 <<< ((32 : Int32).toInt64 &&& 63))) hx hb d_law_97 rfl ?_
      refine lv_aload_n hx hb d_law_98 rfl (lv_at hl 0 rfl) ?_
      refine lv_iload_n hx hb d_law_99 rfl (lv_at hl 3 rfl) ?_
      refine lv_iconst (v := 2) hx hb d_law_100 (by decide) ?_
      refine lv_iadd hx hb d_law_101 ?_
      obtain ⟨g3, h⟩ := gd_some h
      refine va_sld hx hb hX hbl hbA (hz ▸ hS) g3 d_law_102 ?_
      refine lv_i2l (v := (xs (x3 + (2 : Int32)).toNatClampNeg).toInt64) hx hb d_law_103 rfl ?_
      refine lv_ldc2 hx hb hown (hts _ kl_law_13) d_law_104 ?_
      refine lv_land hx hb d_law_107 ?_
      refine lv_lor hx hb d_law_108 ?_
      refine lv_aload_n hx hb d_law_109 rfl (lv_at hl 0 rfl) ?_
      refine lv_iload_n hx hb d_law_110 rfl (lv_at hl 3 rfl) ?_
      refine lv_iconst (v := 3) hx hb d_law_111 (by decide) ?_
      refine lv_iadd hx hb d_law_112 ?_
      obtain ⟨g4, h⟩ := gd_some h
      refine va_sld hx hb hX hbl hbA (hz ▸ hS) g4 d_law_113 ?_
      obtain ⟨r6, S5, eS5, h⟩ := ob2_some h
      refine hx_V (i := 0) (As := [.long ((((xs (x3 + (1 : Int32)).toNatClampNeg).toInt64 <<< ((32 : Int32).toInt64 &&& 63)) ||| ((xs (x3 + (2 : Int32)).toNatClampNeg).toInt64 &&& (4294967295 : Int64)))), .int ((xs (x3 + (3 : Int32)).toNatClampNeg))]) (rest := []) C hW hS (s_P_give n (((xs (x3 + (1 : Int32)).toNatClampNeg).toInt64 <<< ((32 : Int32).toInt64 &&& 63)) ||| ((xs (x3 + (2 : Int32)).toNatClampNeg).toInt64 &&& (4294967295 : Int64))) (xs (x3 + (3 : Int32)).toNatClampNeg) eS5) km_law_15 kv_P_give ke_P_give kn_P kw_P_give kd_P_give (hW.fx 0 rfl) rfl q_P rfl ⟨(Nat.le_of_ble_eq_true rfl), (Nat.le_of_ble_eq_true rfl)⟩ (lb_le hB) rfl hl.1 rfl (Nat.le_of_ble_eq_true rfl) d_law_114 (fun H locs hW hS => ?_)
      have hkS5 : S5.2.2.2 = S.2.2.2 := k_P_give eS5
      refine ac_w hkS5 ?_
      have hT := hT.k hkS5
      have hB := lb_k hkS5 hB
      refine lv_aload_n hx hb d_law_117 rfl (lv_at hl 2 rfl) ?_
      refine lv_aload_n hx hb d_law_118 rfl (lv_at hl 0 rfl) ?_
      refine lv_iload_n hx hb d_law_119 rfl (lv_at hl 3 rfl) ?_
      refine lv_iconst (v := 1) hx hb d_law_120 (by decide) ?_
      refine lv_iadd hx hb d_law_121 ?_
      obtain ⟨g7, h⟩ := gd_some h
      refine va_sld hx hb hX hbl hbA (hz ▸ hS) g7 d_law_122 ?_
      refine lv_i2l (v := (xs (x3 + (1 : Int32)).toNatClampNeg).toInt64) hx hb d_law_123 rfl ?_
      refine lv_bipush (v := 32) hx hb d_law_124 (by decide) ?_
      refine lv_lshl (v := ((xs (x3 + (1 : Int32)).toNatClampNeg).toInt64 <<< ((32 : Int32).toInt64 &&& 63))) hx hb d_law_126 rfl ?_
      refine lv_aload_n hx hb d_law_127 rfl (lv_at hl 0 rfl) ?_
      refine lv_iload_n hx hb d_law_128 rfl (lv_at hl 3 rfl) ?_
      refine lv_iconst (v := 2) hx hb d_law_129 (by decide) ?_
      refine lv_iadd hx hb d_law_130 ?_
      obtain ⟨g8, h⟩ := gd_some h
      refine va_sld hx hb hX hbl hbA (hz ▸ hS) g8 d_law_131 ?_
      refine lv_i2l (v := (xs (x3 + (2 : Int32)).toNatClampNeg).toInt64) hx hb d_law_132 rfl ?_
      refine lv_ldc2 hx hb hown (hts _ kl_law_13) d_law_133 ?_
      refine lv_land hx hb d_law_136 ?_
      refine lv_lor hx hb d_law_137 ?_
      refine lv_aload_n hx hb d_law_138 rfl (lv_at hl 0 rfl) ?_
      refine lv_iload_n hx hb d_law_139 rfl (lv_at hl 3 rfl) ?_
      refine lv_iconst (v := 3) hx hb d_law_140 (by decide) ?_
      refine lv_iadd hx hb d_law_141 ?_
      obtain ⟨g9, h⟩ := gd_some h
      refine va_sld hx hb hX hbl hbA (hz ▸ hS) g9 d_law_142 ?_
      obtain ⟨r11, S10, eS10, h⟩ := ob2_some h
      refine hx_V (i := 200) (As := [.long ((((xs (x3 + (1 : Int32)).toNatClampNeg).toInt64 <<< ((32 : Int32).toInt64 &&& 63)) ||| ((xs (x3 + (2 : Int32)).toNatClampNeg).toInt64 &&& (4294967295 : Int64)))), .int ((xs (x3 + (3 : Int32)).toNatClampNeg))]) (rest := [.int (r6)]) C hW hS (s_M_give n (((xs (x3 + (1 : Int32)).toNatClampNeg).toInt64 <<< ((32 : Int32).toInt64 &&& 63)) ||| ((xs (x3 + (2 : Int32)).toNatClampNeg).toInt64 &&& (4294967295 : Int64))) (xs (x3 + (3 : Int32)).toNatClampNeg) eS10) km_law_19 kv_M_give ke_M_give kn_M kw_M_give kd_M_give (hW.fx 200 rfl) rfl q_M rfl ⟨(Nat.le_of_ble_eq_true rfl), (Nat.le_of_ble_eq_true rfl)⟩ (lb_le hB) rfl hl.1 rfl (Nat.le_of_ble_eq_true rfl) d_law_143 (fun H locs hW hS => ?_)
      have hkS10 : S10.2.2.2 = S5.2.2.2 := k_M_give eS10
      refine ac_w hkS10 ?_
      have hT := hT.k hkS10
      have hB := lb_k hkS10 hB
      refine lv_icmp_eq (tgt := 388) hx hb d_law_146 (by decide) (fun c146 => ?_) (fun c146 => ?_)
      · have h := ite_t c146 h
        exact w_law_388 C hX hbl hz n kc hk x3 h hB hT hW hS (lv_sub hl [0, 1, 2, 3] rfl)
      · have h := ite_f c146 h
        refine lv_iconst (v := 0) hx hb d_law_149 (by decide) ?_
        exact absurd (Option.some.inj h) (by decide)
    · have h := ite_f c32_0 h
      by_cases c32_1 : ((xs x3.toNatClampNeg) &&& (15 : Int32)) = (1 : Int32)
      · have h := ite_t c32_1 h
        refine lv_tableIn (off := 119) (tgt := 151) hx hb d_law_32 (by rw [c32_1]; decide) (by rw [c32_1]; decide) (by rw [c32_1]; rfl) (by decide) ?_
        refine lv_aload_n hx hb d_law_151 rfl (lv_at hl 1 rfl) ?_
        obtain ⟨S12, eS12, h⟩ := ob_some h
        refine hx_V (i := 0) (As := []) (rest := []) C hW hS (s_P_wipe eS12) km_law_20 kv_P_wipe ke_P_wipe kn_P kw_P_wipe kd_P_wipe (hW.fx 0 rfl) rfl q_P rfl ⟨(Nat.le_of_ble_eq_true rfl), (Nat.le_of_ble_eq_true rfl)⟩ (lb_le hB) rfl hl.1 rfl (Nat.le_of_ble_eq_true rfl) d_law_152 (fun H locs hW hS => ?_)
        have hkS12 : S12.2.2.2 = S.2.2.2 := k_P_wipe eS12
        refine ac_w hkS12 ?_
        have hT := hT.k hkS12
        have hB := lb_k hkS12 hB
        refine lv_aload_n hx hb d_law_155 rfl (lv_at hl 2 rfl) ?_
        obtain ⟨S13, eS13, h⟩ := ob_some h
        refine hx_V (i := 200) (As := []) (rest := []) C hW hS (s_M_wipe eS13) km_law_23 kv_M_wipe ke_M_wipe kn_M kw_M_wipe kd_M_wipe (hW.fx 200 rfl) rfl q_M rfl ⟨(Nat.le_of_ble_eq_true rfl), (Nat.le_of_ble_eq_true rfl)⟩ (lb_le hB) rfl hl.1 rfl (Nat.le_of_ble_eq_true rfl) d_law_156 (fun H locs hW hS => ?_)
        have hkS13 : S13.2.2.2 = S12.2.2.2 := k_M_wipe eS13
        refine ac_w hkS13 ?_
        have hT := hT.k hkS13
        have hB := lb_k hkS13 hB
        refine lv_goto (tgt := 388) hx hb d_law_159 (by decide) ?_
        exact w_law_388 C hX hbl hz n kc hk x3 h hB hT hW hS (lv_sub hl [0, 1, 2, 3] rfl)
      · have h := ite_f c32_1 h
        by_cases c32_2 : ((xs x3.toNatClampNeg) &&& (15 : Int32)) = (2 : Int32)
        · have h := ite_t c32_2 h
          refine lv_tableIn (off := 130) (tgt := 162) hx hb d_law_32 (by rw [c32_2]; decide) (by rw [c32_2]; decide) (by rw [c32_2]; rfl) (by decide) ?_
          refine lv_aload_n hx hb d_law_162 rfl (lv_at hl 1 rfl) ?_
          obtain ⟨r16, S14, eS14, h⟩ := ob2_some h
          obtain ⟨g17, h⟩ := gd_some h
          have hX2 := hW
          refine hx_VA (i := 0) (As := []) (rest := []) C hW hS hT (s_P_read n eS14) (m_P_read eS14) km_law_24 kv_P_read ke_P_read kn_P kw_P_read kd_P_read (hW.fx 0 rfl) rfl q_P rfl ⟨(Nat.le_of_ble_eq_true rfl), (Nat.le_of_ble_eq_true rfl)⟩ (lb_le g17) rfl hl.1 rfl (Nat.le_of_ble_eq_true rfl) d_law_163 (fun ad15 H locs hA hT hW hS => ?_)
          have hB := g17
          have hl : lv_has ls 4 [(0, .ref b), (1, .ref (ad15 0)), (2, .ref (ad15 200)), (3, .int (x3))] := by rw [hA 0 (hX2.fx 0 rfl), hA 200 (hX2.fx 200 rfl)]; exact hl
          refine lv_aload_n hx hb d_law_166 rfl (lv_at hl 2 rfl) ?_
          obtain ⟨r19, S18, eS18, h⟩ := ob2_some h
          refine hx_V (i := 200) (As := []) (rest := [.int (r16)]) C hW hS (s_M_read n eS18) km_law_28 kv_M_read ke_M_read kn_M kw_M_read kd_M_read (hW.fx 200 rfl) rfl q_M rfl ⟨(Nat.le_of_ble_eq_true rfl), (Nat.le_of_ble_eq_true rfl)⟩ (lb_le hB) rfl hl.1 rfl (Nat.le_of_ble_eq_true rfl) d_law_167 (fun H locs hW hS => ?_)
          have hkS18 : S18.2.2.2 = S14.2.2.2 := k_M_read eS18
          refine ac_w hkS18 ?_
          have hT := hT.k hkS18
          have hB := lb_k hkS18 hB
          refine lv_icmp_eq (tgt := 388) hx hb d_law_170 (by decide) (fun c170 => ?_) (fun c170 => ?_)
          · have h := ite_t c170 h
            exact w_law_388 C hX hbl hz n kc hk x3 h hB hT hW hS (lv_sub hl [0, 1, 2, 3] rfl)
          · have h := ite_f c170 h
            refine lv_iconst (v := 0) hx hb d_law_173 (by decide) ?_
            exact absurd (Option.some.inj h) (by decide)
        · have h := ite_f c32_2 h
          by_cases c32_3 : ((xs x3.toNatClampNeg) &&& (15 : Int32)) = (3 : Int32)
          · have h := ite_t c32_3 h
            refine lv_tableIn (off := 143) (tgt := 175) hx hb d_law_32 (by rw [c32_3]; decide) (by rw [c32_3]; decide) (by rw [c32_3]; rfl) (by decide) ?_
            refine lv_aload_n hx hb d_law_175 rfl (lv_at hl 1 rfl) ?_
            refine lv_aload_n hx hb d_law_176 rfl (lv_at hl 0 rfl) ?_
            refine lv_iload_n hx hb d_law_177 rfl (lv_at hl 3 rfl) ?_
            refine lv_iconst (v := 1) hx hb d_law_178 (by decide) ?_
            refine lv_iadd hx hb d_law_179 ?_
            obtain ⟨g20, h⟩ := gd_some h
            refine va_sld hx hb hX hbl hbA (hz ▸ hS) g20 d_law_180 ?_
            refine lv_aload_n hx hb d_law_181 rfl (lv_at hl 0 rfl) ?_
            refine lv_iload_n hx hb d_law_182 rfl (lv_at hl 3 rfl) ?_
            refine lv_iconst (v := 2) hx hb d_law_183 (by decide) ?_
            refine lv_iadd hx hb d_law_184 ?_
            obtain ⟨g21, h⟩ := gd_some h
            refine va_sld hx hb hX hbl hbA (hz ▸ hS) g21 d_law_185 ?_
            obtain ⟨r22, er22, h⟩ := ob_some h
            refine hx_V (i := 0) (As := [.int ((xs (x3 + (1 : Int32)).toNatClampNeg)), .int ((xs (x3 + (2 : Int32)).toNatClampNeg))]) (rest := []) C hW hS (s_P_definition (xs (x3 + (1 : Int32)).toNatClampNeg) (xs (x3 + (2 : Int32)).toNatClampNeg) er22) km_law_29 kv_P_definition ke_P_definition kn_P kw_P_definition kd_P_definition (hW.fx 0 rfl) rfl q_P rfl ⟨(Nat.le_of_ble_eq_true rfl), (Nat.le_of_ble_eq_true rfl)⟩ (lb_le hB) rfl hl.1 rfl (Nat.le_of_ble_eq_true rfl) d_law_186 (fun H locs hW hS => ?_)
            refine lv_aload_n hx hb d_law_189 rfl (lv_at hl 2 rfl) ?_
            refine lv_aload_n hx hb d_law_190 rfl (lv_at hl 0 rfl) ?_
            refine lv_iload_n hx hb d_law_191 rfl (lv_at hl 3 rfl) ?_
            refine lv_iconst (v := 1) hx hb d_law_192 (by decide) ?_
            refine lv_iadd hx hb d_law_193 ?_
            obtain ⟨g23, h⟩ := gd_some h
            refine va_sld hx hb hX hbl hbA (hz ▸ hS) g23 d_law_194 ?_
            refine lv_aload_n hx hb d_law_195 rfl (lv_at hl 0 rfl) ?_
            refine lv_iload_n hx hb d_law_196 rfl (lv_at hl 3 rfl) ?_
            refine lv_iconst (v := 2) hx hb d_law_197 (by decide) ?_
            refine lv_iadd hx hb d_law_198 ?_
            obtain ⟨g24, h⟩ := gd_some h
            refine va_sld hx hb hX hbl hbA (hz ▸ hS) g24 d_law_199 ?_
            obtain ⟨r26, S25, eS25, h⟩ := ob2_some h
            refine hx_V (i := 200) (As := [.int ((xs (x3 + (1 : Int32)).toNatClampNeg)), .int ((xs (x3 + (2 : Int32)).toNatClampNeg))]) (rest := [.int (r22)]) C hW hS (s_M_definition (xs (x3 + (1 : Int32)).toNatClampNeg) (xs (x3 + (2 : Int32)).toNatClampNeg) eS25) km_law_33 kv_M_definition ke_M_definition kn_M kw_M_definition kd_M_definition (hW.fx 200 rfl) rfl q_M rfl ⟨(Nat.le_of_ble_eq_true rfl), (Nat.le_of_ble_eq_true rfl)⟩ (lb_le hB) rfl hl.1 rfl (Nat.le_of_ble_eq_true rfl) d_law_200 (fun H locs hW hS => ?_)
            have hkS25 : S25.2.2.2 = S.2.2.2 := k_M_definition eS25
            refine ac_w hkS25 ?_
            have hT := hT.k hkS25
            have hB := lb_k hkS25 hB
            refine lv_icmp_eq (tgt := 388) hx hb d_law_203 (by decide) (fun c203 => ?_) (fun c203 => ?_)
            · have h := ite_t c203 h
              exact w_law_388 C hX hbl hz n kc hk x3 h hB hT hW hS (lv_sub hl [0, 1, 2, 3] rfl)
            · have h := ite_f c203 h
              refine lv_iconst (v := 0) hx hb d_law_206 (by decide) ?_
              exact absurd (Option.some.inj h) (by decide)
          · have h := ite_f c32_3 h
            by_cases c32_4 : ((xs x3.toNatClampNeg) &&& (15 : Int32)) = (4 : Int32)
            · have h := ite_t c32_4 h
              refine lv_tableIn (off := 176) (tgt := 208) hx hb d_law_32 (by rw [c32_4]; decide) (by rw [c32_4]; decide) (by rw [c32_4]; rfl) (by decide) ?_
              refine lv_aload_n hx hb d_law_208 rfl (lv_at hl 1 rfl) ?_
              refine lv_aload_n hx hb d_law_209 rfl (lv_at hl 0 rfl) ?_
              refine lv_iload_n hx hb d_law_210 rfl (lv_at hl 3 rfl) ?_
              refine lv_iconst (v := 1) hx hb d_law_211 (by decide) ?_
              refine lv_iadd hx hb d_law_212 ?_
              obtain ⟨g27, h⟩ := gd_some h
              refine va_sld hx hb hX hbl hbA (hz ▸ hS) g27 d_law_213 ?_
              refine lv_aload_n hx hb d_law_214 rfl (lv_at hl 0 rfl) ?_
              refine lv_iload_n hx hb d_law_215 rfl (lv_at hl 3 rfl) ?_
              refine lv_iconst (v := 2) hx hb d_law_216 (by decide) ?_
              refine lv_iadd hx hb d_law_217 ?_
              obtain ⟨g28, h⟩ := gd_some h
              refine va_sld hx hb hX hbl hbA (hz ▸ hS) g28 d_law_218 ?_
              obtain ⟨r29, er29, h⟩ := ob_some h
              refine hx_V (i := 0) (As := [.int ((xs (x3 + (1 : Int32)).toNatClampNeg)), .int ((xs (x3 + (2 : Int32)).toNatClampNeg))]) (rest := []) C hW hS (s_P_title (xs (x3 + (1 : Int32)).toNatClampNeg) (xs (x3 + (2 : Int32)).toNatClampNeg) er29) km_law_34 kv_P_title ke_P_title kn_P kw_P_title kd_P_title (hW.fx 0 rfl) rfl q_P rfl ⟨(Nat.le_of_ble_eq_true rfl), (Nat.le_of_ble_eq_true rfl)⟩ (lb_le hB) rfl hl.1 rfl (Nat.le_of_ble_eq_true rfl) d_law_219 (fun H locs hW hS => ?_)
              refine lv_aload_n hx hb d_law_222 rfl (lv_at hl 2 rfl) ?_
              refine lv_aload_n hx hb d_law_223 rfl (lv_at hl 0 rfl) ?_
              refine lv_iload_n hx hb d_law_224 rfl (lv_at hl 3 rfl) ?_
              refine lv_iconst (v := 1) hx hb d_law_225 (by decide) ?_
              refine lv_iadd hx hb d_law_226 ?_
              obtain ⟨g30, h⟩ := gd_some h
              refine va_sld hx hb hX hbl hbA (hz ▸ hS) g30 d_law_227 ?_
              refine lv_aload_n hx hb d_law_228 rfl (lv_at hl 0 rfl) ?_
              refine lv_iload_n hx hb d_law_229 rfl (lv_at hl 3 rfl) ?_
              refine lv_iconst (v := 2) hx hb d_law_230 (by decide) ?_
              refine lv_iadd hx hb d_law_231 ?_
              obtain ⟨g31, h⟩ := gd_some h
              refine va_sld hx hb hX hbl hbA (hz ▸ hS) g31 d_law_232 ?_
              obtain ⟨r33, S32, eS32, h⟩ := ob2_some h
              refine hx_V (i := 200) (As := [.int ((xs (x3 + (1 : Int32)).toNatClampNeg)), .int ((xs (x3 + (2 : Int32)).toNatClampNeg))]) (rest := [.long (r29)]) C hW hS (s_M_title (xs (x3 + (1 : Int32)).toNatClampNeg) (xs (x3 + (2 : Int32)).toNatClampNeg) eS32) km_law_38 kv_M_title ke_M_title kn_M kw_M_title kd_M_title (hW.fx 200 rfl) rfl q_M rfl ⟨(Nat.le_of_ble_eq_true rfl), (Nat.le_of_ble_eq_true rfl)⟩ (lb_le hB) rfl hl.1 rfl (Nat.le_of_ble_eq_true rfl) d_law_233 (fun H locs hW hS => ?_)
              have hkS32 : S32.2.2.2 = S.2.2.2 := k_M_title eS32
              refine ac_w hkS32 ?_
              have hT := hT.k hkS32
              have hB := lb_k hkS32 hB
              refine W.lcmp hx hb d_law_236 ?_
              refine lv_if_eq (tgt := 388) hx hb d_law_237 (by decide) (fun c237 => ?_) (fun c237 => ?_)
              · have h := ite_t c237 h
                exact w_law_388 C hX hbl hz n kc hk x3 h hB hT hW hS (lv_sub hl [0, 1, 2, 3] rfl)
              · have h := ite_f c237 h
                refine lv_iconst (v := 0) hx hb d_law_240 (by decide) ?_
                exact absurd (Option.some.inj h) (by decide)
            · have h := ite_f c32_4 h
              by_cases c32_5 : ((xs x3.toNatClampNeg) &&& (15 : Int32)) = (5 : Int32)
              · have h := ite_t c32_5 h
                refine lv_tableIn (off := 210) (tgt := 242) hx hb d_law_32 (by rw [c32_5]; decide) (by rw [c32_5]; decide) (by rw [c32_5]; rfl) (by decide) ?_
                refine lv_aload_n hx hb d_law_242 rfl (lv_at hl 1 rfl) ?_
                refine lv_aload_n hx hb d_law_243 rfl (lv_at hl 0 rfl) ?_
                refine lv_iload_n hx hb d_law_244 rfl (lv_at hl 3 rfl) ?_
                refine lv_iconst (v := 1) hx hb d_law_245 (by decide) ?_
                refine lv_iadd hx hb d_law_246 ?_
                obtain ⟨g34, h⟩ := gd_some h
                refine va_sld hx hb hX hbl hbA (hz ▸ hS) g34 d_law_247 ?_
                refine lv_aload_n hx hb d_law_248 rfl (lv_at hl 0 rfl) ?_
                refine lv_iload_n hx hb d_law_249 rfl (lv_at hl 3 rfl) ?_
                refine lv_iconst (v := 2) hx hb d_law_250 (by decide) ?_
                refine lv_iadd hx hb d_law_251 ?_
                obtain ⟨g35, h⟩ := gd_some h
                refine va_sld hx hb hX hbl hbA (hz ▸ hS) g35 d_law_252 ?_
                obtain ⟨r36, er36, h⟩ := ob_some h
                refine hx_V (i := 0) (As := [.int ((xs (x3 + (1 : Int32)).toNatClampNeg)), .int ((xs (x3 + (2 : Int32)).toNatClampNeg))]) (rest := []) C hW hS (s_P_parameter (xs (x3 + (1 : Int32)).toNatClampNeg) (xs (x3 + (2 : Int32)).toNatClampNeg) er36) km_law_39 kv_P_parameter ke_P_parameter kn_P kw_P_parameter kd_P_parameter (hW.fx 0 rfl) rfl q_P rfl ⟨(Nat.le_of_ble_eq_true rfl), (Nat.le_of_ble_eq_true rfl)⟩ (lb_le hB) rfl hl.1 rfl (Nat.le_of_ble_eq_true rfl) d_law_253 (fun H locs hW hS => ?_)
                refine lv_aload_n hx hb d_law_256 rfl (lv_at hl 2 rfl) ?_
                refine lv_aload_n hx hb d_law_257 rfl (lv_at hl 0 rfl) ?_
                refine lv_iload_n hx hb d_law_258 rfl (lv_at hl 3 rfl) ?_
                refine lv_iconst (v := 1) hx hb d_law_259 (by decide) ?_
                refine lv_iadd hx hb d_law_260 ?_
                obtain ⟨g37, h⟩ := gd_some h
                refine va_sld hx hb hX hbl hbA (hz ▸ hS) g37 d_law_261 ?_
                refine lv_aload_n hx hb d_law_262 rfl (lv_at hl 0 rfl) ?_
                refine lv_iload_n hx hb d_law_263 rfl (lv_at hl 3 rfl) ?_
                refine lv_iconst (v := 2) hx hb d_law_264 (by decide) ?_
                refine lv_iadd hx hb d_law_265 ?_
                obtain ⟨g38, h⟩ := gd_some h
                refine va_sld hx hb hX hbl hbA (hz ▸ hS) g38 d_law_266 ?_
                obtain ⟨r40, S39, eS39, h⟩ := ob2_some h
                refine hx_V (i := 200) (As := [.int ((xs (x3 + (1 : Int32)).toNatClampNeg)), .int ((xs (x3 + (2 : Int32)).toNatClampNeg))]) (rest := [.int (r36)]) C hW hS (s_M_parameter (xs (x3 + (1 : Int32)).toNatClampNeg) (xs (x3 + (2 : Int32)).toNatClampNeg) eS39) km_law_42 kv_M_parameter ke_M_parameter kn_M kw_M_parameter kd_M_parameter (hW.fx 200 rfl) rfl q_M rfl ⟨(Nat.le_of_ble_eq_true rfl), (Nat.le_of_ble_eq_true rfl)⟩ (lb_le hB) rfl hl.1 rfl (Nat.le_of_ble_eq_true rfl) d_law_267 (fun H locs hW hS => ?_)
                have hkS39 : S39.2.2.2 = S.2.2.2 := k_M_parameter eS39
                refine ac_w hkS39 ?_
                have hT := hT.k hkS39
                have hB := lb_k hkS39 hB
                refine lv_icmp_eq (tgt := 388) hx hb d_law_270 (by decide) (fun c270 => ?_) (fun c270 => ?_)
                · have h := ite_t c270 h
                  exact w_law_388 C hX hbl hz n kc hk x3 h hB hT hW hS (lv_sub hl [0, 1, 2, 3] rfl)
                · have h := ite_f c270 h
                  refine lv_iconst (v := 0) hx hb d_law_273 (by decide) ?_
                  exact absurd (Option.some.inj h) (by decide)
              · have h := ite_f c32_5 h
                by_cases c32_6 : ((xs x3.toNatClampNeg) &&& (15 : Int32)) = (6 : Int32)
                · have h := ite_t c32_6 h
                  refine lv_tableIn (off := 243) (tgt := 275) hx hb d_law_32 (by rw [c32_6]; decide) (by rw [c32_6]; decide) (by rw [c32_6]; rfl) (by decide) ?_
                  refine lv_aload_n hx hb d_law_275 rfl (lv_at hl 1 rfl) ?_
                  refine lv_aload_n hx hb d_law_276 rfl (lv_at hl 0 rfl) ?_
                  refine lv_iload_n hx hb d_law_277 rfl (lv_at hl 3 rfl) ?_
                  refine lv_iconst (v := 1) hx hb d_law_278 (by decide) ?_
                  refine lv_iadd hx hb d_law_279 ?_
                  obtain ⟨g41, h⟩ := gd_some h
                  refine va_sld hx hb hX hbl hbA (hz ▸ hS) g41 d_law_280 ?_
                  refine lv_aload_n hx hb d_law_281 rfl (lv_at hl 0 rfl) ?_
                  refine lv_iload_n hx hb d_law_282 rfl (lv_at hl 3 rfl) ?_
                  refine lv_iconst (v := 2) hx hb d_law_283 (by decide) ?_
                  refine lv_iadd hx hb d_law_284 ?_
                  obtain ⟨g42, h⟩ := gd_some h
                  refine va_sld hx hb hX hbl hbA (hz ▸ hS) g42 d_law_285 ?_
                  obtain ⟨r43, er43, h⟩ := ob_some h
                  refine hx_V (i := 0) (As := [.int ((xs (x3 + (1 : Int32)).toNatClampNeg)), .int ((xs (x3 + (2 : Int32)).toNatClampNeg))]) (rest := []) C hW hS (s_P_node (xs (x3 + (1 : Int32)).toNatClampNeg) (xs (x3 + (2 : Int32)).toNatClampNeg) er43) km_law_43 kv_P_node ke_P_node kn_P kw_P_node kd_P_node (hW.fx 0 rfl) rfl q_P rfl ⟨(Nat.le_of_ble_eq_true rfl), (Nat.le_of_ble_eq_true rfl)⟩ (lb_le hB) rfl hl.1 rfl (Nat.le_of_ble_eq_true rfl) d_law_286 (fun H locs hW hS => ?_)
                  refine lv_aload_n hx hb d_law_289 rfl (lv_at hl 2 rfl) ?_
                  refine lv_aload_n hx hb d_law_290 rfl (lv_at hl 0 rfl) ?_
                  refine lv_iload_n hx hb d_law_291 rfl (lv_at hl 3 rfl) ?_
                  refine lv_iconst (v := 1) hx hb d_law_292 (by decide) ?_
                  refine lv_iadd hx hb d_law_293 ?_
                  obtain ⟨g44, h⟩ := gd_some h
                  refine va_sld hx hb hX hbl hbA (hz ▸ hS) g44 d_law_294 ?_
                  refine lv_aload_n hx hb d_law_295 rfl (lv_at hl 0 rfl) ?_
                  refine lv_iload_n hx hb d_law_296 rfl (lv_at hl 3 rfl) ?_
                  refine lv_iconst (v := 2) hx hb d_law_297 (by decide) ?_
                  refine lv_iadd hx hb d_law_298 ?_
                  obtain ⟨g45, h⟩ := gd_some h
                  refine va_sld hx hb hX hbl hbA (hz ▸ hS) g45 d_law_299 ?_
                  obtain ⟨r47, S46, eS46, h⟩ := ob2_some h
                  refine hx_V (i := 200) (As := [.int ((xs (x3 + (1 : Int32)).toNatClampNeg)), .int ((xs (x3 + (2 : Int32)).toNatClampNeg))]) (rest := [.int (r43)]) C hW hS (s_M_node n (xs (x3 + (1 : Int32)).toNatClampNeg) (xs (x3 + (2 : Int32)).toNatClampNeg) eS46) km_law_46 kv_M_node ke_M_node kn_M kw_M_node kd_M_node (hW.fx 200 rfl) rfl q_M rfl ⟨(Nat.le_of_ble_eq_true rfl), (Nat.le_of_ble_eq_true rfl)⟩ (lb_le hB) rfl hl.1 rfl (Nat.le_of_ble_eq_true rfl) d_law_300 (fun H locs hW hS => ?_)
                  have hkS46 : S46.2.2.2 = S.2.2.2 := k_M_node eS46
                  refine ac_w hkS46 ?_
                  have hT := hT.k hkS46
                  have hB := lb_k hkS46 hB
                  refine lv_icmp_eq (tgt := 388) hx hb d_law_303 (by decide) (fun c303 => ?_) (fun c303 => ?_)
                  · have h := ite_t c303 h
                    exact w_law_388 C hX hbl hz n kc hk x3 h hB hT hW hS (lv_sub hl [0, 1, 2, 3] rfl)
                  · have h := ite_f c303 h
                    refine lv_iconst (v := 0) hx hb d_law_306 (by decide) ?_
                    exact absurd (Option.some.inj h) (by decide)
                · have h := ite_f c32_6 h
                  by_cases c32_7 : ((xs x3.toNatClampNeg) &&& (15 : Int32)) = (7 : Int32)
                  · have h := ite_t c32_7 h
                    refine lv_tableIn (off := 276) (tgt := 308) hx hb d_law_32 (by rw [c32_7]; decide) (by rw [c32_7]; decide) (by rw [c32_7]; rfl) (by decide) ?_
                    refine lv_aload_n hx hb d_law_308 rfl (lv_at hl 1 rfl) ?_
                    refine lv_aload_n hx hb d_law_309 rfl (lv_at hl 0 rfl) ?_
                    refine lv_iload_n hx hb d_law_310 rfl (lv_at hl 3 rfl) ?_
                    refine lv_iconst (v := 1) hx hb d_law_311 (by decide) ?_
                    refine lv_iadd hx hb d_law_312 ?_
                    obtain ⟨g48, h⟩ := gd_some h
                    refine va_sld hx hb hX hbl hbA (hz ▸ hS) g48 d_law_313 ?_
                    refine lv_aload_n hx hb d_law_314 rfl (lv_at hl 0 rfl) ?_
                    refine lv_iload_n hx hb d_law_315 rfl (lv_at hl 3 rfl) ?_
                    refine lv_iconst (v := 2) hx hb d_law_316 (by decide) ?_
                    refine lv_iadd hx hb d_law_317 ?_
                    obtain ⟨g49, h⟩ := gd_some h
                    refine va_sld hx hb hX hbl hbA (hz ▸ hS) g49 d_law_318 ?_
                    obtain ⟨r50, er50, h⟩ := ob_some h
                    refine hx_V (i := 0) (As := [.int ((xs (x3 + (1 : Int32)).toNatClampNeg)), .int ((xs (x3 + (2 : Int32)).toNatClampNeg))]) (rest := []) C hW hS (s_P_name (xs (x3 + (1 : Int32)).toNatClampNeg) (xs (x3 + (2 : Int32)).toNatClampNeg) er50) km_law_47 kv_P_name ke_P_name kn_P kw_P_name kd_P_name (hW.fx 0 rfl) rfl q_P rfl ⟨(Nat.le_of_ble_eq_true rfl), (Nat.le_of_ble_eq_true rfl)⟩ (lb_le hB) rfl hl.1 rfl (Nat.le_of_ble_eq_true rfl) d_law_319 (fun H locs hW hS => ?_)
                    refine lv_aload_n hx hb d_law_322 rfl (lv_at hl 2 rfl) ?_
                    refine lv_aload_n hx hb d_law_323 rfl (lv_at hl 0 rfl) ?_
                    refine lv_iload_n hx hb d_law_324 rfl (lv_at hl 3 rfl) ?_
                    refine lv_iconst (v := 1) hx hb d_law_325 (by decide) ?_
                    refine lv_iadd hx hb d_law_326 ?_
                    obtain ⟨g51, h⟩ := gd_some h
                    refine va_sld hx hb hX hbl hbA (hz ▸ hS) g51 d_law_327 ?_
                    refine lv_aload_n hx hb d_law_328 rfl (lv_at hl 0 rfl) ?_
                    refine lv_iload_n hx hb d_law_329 rfl (lv_at hl 3 rfl) ?_
                    refine lv_iconst (v := 2) hx hb d_law_330 (by decide) ?_
                    refine lv_iadd hx hb d_law_331 ?_
                    obtain ⟨g52, h⟩ := gd_some h
                    refine va_sld hx hb hX hbl hbA (hz ▸ hS) g52 d_law_332 ?_
                    obtain ⟨r54, S53, eS53, h⟩ := ob2_some h
                    refine hx_V (i := 200) (As := [.int ((xs (x3 + (1 : Int32)).toNatClampNeg)), .int ((xs (x3 + (2 : Int32)).toNatClampNeg))]) (rest := [.long (r50)]) C hW hS (s_M_name (xs (x3 + (1 : Int32)).toNatClampNeg) (xs (x3 + (2 : Int32)).toNatClampNeg) eS53) km_law_50 kv_M_name ke_M_name kn_M kw_M_name kd_M_name (hW.fx 200 rfl) rfl q_M rfl ⟨(Nat.le_of_ble_eq_true rfl), (Nat.le_of_ble_eq_true rfl)⟩ (lb_le hB) rfl hl.1 rfl (Nat.le_of_ble_eq_true rfl) d_law_333 (fun H locs hW hS => ?_)
                    have hkS53 : S53.2.2.2 = S.2.2.2 := k_M_name eS53
                    refine ac_w hkS53 ?_
                    have hT := hT.k hkS53
                    have hB := lb_k hkS53 hB
                    refine W.lcmp hx hb d_law_336 ?_
                    refine lv_if_eq (tgt := 388) hx hb d_law_337 (by decide) (fun c337 => ?_) (fun c337 => ?_)
                    · have h := ite_t c337 h
                      exact w_law_388 C hX hbl hz n kc hk x3 h hB hT hW hS (lv_sub hl [0, 1, 2, 3] rfl)
                    · have h := ite_f c337 h
                      refine lv_iconst (v := 0) hx hb d_law_340 (by decide) ?_
                      exact absurd (Option.some.inj h) (by decide)
                  · have h := ite_f c32_7 h
                    by_cases c32_8 : ((xs x3.toNatClampNeg) &&& (15 : Int32)) = (8 : Int32)
                    · have h := ite_t c32_8 h
                      refine lv_tableIn (off := 310) (tgt := 342) hx hb d_law_32 (by rw [c32_8]; decide) (by rw [c32_8]; decide) (by rw [c32_8]; rfl) (by decide) ?_
                      refine lv_aload_n hx hb d_law_342 rfl (lv_at hl 1 rfl) ?_
                      refine lv_aload_n hx hb d_law_343 rfl (lv_at hl 0 rfl) ?_
                      refine lv_iload_n hx hb d_law_344 rfl (lv_at hl 3 rfl) ?_
                      refine lv_iconst (v := 1) hx hb d_law_345 (by decide) ?_
                      refine lv_iadd hx hb d_law_346 ?_
                      obtain ⟨g55, h⟩ := gd_some h
                      refine va_sld hx hb hX hbl hbA (hz ▸ hS) g55 d_law_347 ?_
                      obtain ⟨r56, er56, h⟩ := ob_some h
                      refine hx_V (i := 0) (As := [.int ((xs (x3 + (1 : Int32)).toNatClampNeg))]) (rest := []) C hW hS (s_P_number (xs (x3 + (1 : Int32)).toNatClampNeg) er56) km_law_51 kv_P_number ke_P_number kn_P kw_P_number kd_P_number (hW.fx 0 rfl) rfl q_P rfl ⟨(Nat.le_of_ble_eq_true rfl), (Nat.le_of_ble_eq_true rfl)⟩ (lb_le hB) rfl hl.1 rfl (Nat.le_of_ble_eq_true rfl) d_law_348 (fun H locs hW hS => ?_)
                      refine lv_aload_n hx hb d_law_351 rfl (lv_at hl 2 rfl) ?_
                      refine lv_aload_n hx hb d_law_352 rfl (lv_at hl 0 rfl) ?_
                      refine lv_iload_n hx hb d_law_353 rfl (lv_at hl 3 rfl) ?_
                      refine lv_iconst (v := 1) hx hb d_law_354 (by decide) ?_
                      refine lv_iadd hx hb d_law_355 ?_
                      obtain ⟨g57, h⟩ := gd_some h
                      refine va_sld hx hb hX hbl hbA (hz ▸ hS) g57 d_law_356 ?_
                      obtain ⟨r59, S58, eS58, h⟩ := ob2_some h
                      refine hx_V (i := 200) (As := [.int ((xs (x3 + (1 : Int32)).toNatClampNeg))]) (rest := [.int (r56)]) C hW hS (s_M_number (xs (x3 + (1 : Int32)).toNatClampNeg) eS58) km_law_55 kv_M_number ke_M_number kn_M kw_M_number kd_M_number (hW.fx 200 rfl) rfl q_M rfl ⟨(Nat.le_of_ble_eq_true rfl), (Nat.le_of_ble_eq_true rfl)⟩ (lb_le hB) rfl hl.1 rfl (Nat.le_of_ble_eq_true rfl) d_law_357 (fun H locs hW hS => ?_)
                      have hkS58 : S58.2.2.2 = S.2.2.2 := k_M_number eS58
                      refine ac_w hkS58 ?_
                      have hT := hT.k hkS58
                      have hB := lb_k hkS58 hB
                      refine lv_icmp_eq (tgt := 388) hx hb d_law_360 (by decide) (fun c360 => ?_) (fun c360 => ?_)
                      · have h := ite_t c360 h
                        exact w_law_388 C hX hbl hz n kc hk x3 h hB hT hW hS (lv_sub hl [0, 1, 2, 3] rfl)
                      · have h := ite_f c360 h
                        refine lv_iconst (v := 0) hx hb d_law_363 (by decide) ?_
                        exact absurd (Option.some.inj h) (by decide)
                    · have h := ite_f c32_8 h
                      by_cases c32_9 : ((xs x3.toNatClampNeg) &&& (15 : Int32)) = (9 : Int32)
                      · have h := ite_t c32_9 h
                        refine lv_tableIn (off := 333) (tgt := 365) hx hb d_law_32 (by rw [c32_9]; decide) (by rw [c32_9]; decide) (by rw [c32_9]; rfl) (by decide) ?_
                        refine lv_aload_n hx hb d_law_365 rfl (lv_at hl 1 rfl) ?_
                        refine lv_aload_n hx hb d_law_366 rfl (lv_at hl 0 rfl) ?_
                        refine lv_iload_n hx hb d_law_367 rfl (lv_at hl 3 rfl) ?_
                        refine lv_iconst (v := 1) hx hb d_law_368 (by decide) ?_
                        refine lv_iadd hx hb d_law_369 ?_
                        obtain ⟨g60, h⟩ := gd_some h
                        refine va_sld hx hb hX hbl hbA (hz ▸ hS) g60 d_law_370 ?_
                        obtain ⟨r61, er61, h⟩ := ob_some h
                        refine hx_V (i := 0) (As := [.int ((xs (x3 + (1 : Int32)).toNatClampNeg))]) (rest := []) C hW hS (s_P_look (xs (x3 + (1 : Int32)).toNatClampNeg) er61) km_law_56 kv_P_look ke_P_look kn_P kw_P_look kd_P_look (hW.fx 0 rfl) rfl q_P rfl ⟨(Nat.le_of_ble_eq_true rfl), (Nat.le_of_ble_eq_true rfl)⟩ (lb_le hB) rfl hl.1 rfl (Nat.le_of_ble_eq_true rfl) d_law_371 (fun H locs hW hS => ?_)
                        refine lv_aload_n hx hb d_law_374 rfl (lv_at hl 2 rfl) ?_
                        refine lv_aload_n hx hb d_law_375 rfl (lv_at hl 0 rfl) ?_
                        refine lv_iload_n hx hb d_law_376 rfl (lv_at hl 3 rfl) ?_
                        refine lv_iconst (v := 1) hx hb d_law_377 (by decide) ?_
                        refine lv_iadd hx hb d_law_378 ?_
                        obtain ⟨g62, h⟩ := gd_some h
                        refine va_sld hx hb hX hbl hbA (hz ▸ hS) g62 d_law_379 ?_
                        obtain ⟨r64, S63, eS63, h⟩ := ob2_some h
                        refine hx_V (i := 200) (As := [.int ((xs (x3 + (1 : Int32)).toNatClampNeg))]) (rest := [.int (r61)]) C hW hS (s_M_look (xs (x3 + (1 : Int32)).toNatClampNeg) eS63) km_law_59 kv_M_look ke_M_look kn_M kw_M_look kd_M_look (hW.fx 200 rfl) rfl q_M rfl ⟨(Nat.le_of_ble_eq_true rfl), (Nat.le_of_ble_eq_true rfl)⟩ (lb_le hB) rfl hl.1 rfl (Nat.le_of_ble_eq_true rfl) d_law_380 (fun H locs hW hS => ?_)
                        have hkS63 : S63.2.2.2 = S.2.2.2 := k_M_look eS63
                        refine ac_w hkS63 ?_
                        have hT := hT.k hkS63
                        have hB := lb_k hkS63 hB
                        refine lv_icmp_eq (tgt := 388) hx hb d_law_383 (by decide) (fun c383 => ?_) (fun c383 => ?_)
                        · have h := ite_t c383 h
                          exact w_law_388 C hX hbl hz n kc hk x3 h hB hT hW hS (lv_sub hl [0, 1, 2, 3] rfl)
                        · have h := ite_f c383 h
                          refine lv_iconst (v := 0) hx hb d_law_386 (by decide) ?_
                          exact absurd (Option.some.inj h) (by decide)
                      · have h := ite_f c32_9 h
                        refine lv_tableOut (tgt := 388) hx hb d_law_32 (by have := lv_neT c32_0 (show ((0 : Int32)).toInt = 0 by decide); have := lv_neT c32_1 (show ((1 : Int32)).toInt = 1 by decide); have := lv_neT c32_2 (show ((2 : Int32)).toInt = 2 by decide); have := lv_neT c32_3 (show ((3 : Int32)).toInt = 3 by decide); have := lv_neT c32_4 (show ((4 : Int32)).toInt = 4 by decide); have := lv_neT c32_5 (show ((5 : Int32)).toInt = 5 by decide); have := lv_neT c32_6 (show ((6 : Int32)).toInt = 6 by decide); have := lv_neT c32_7 (show ((7 : Int32)).toInt = 7 by decide); have := lv_neT c32_8 (show ((8 : Int32)).toInt = 8 by decide); have := lv_neT c32_9 (show ((9 : Int32)).toInt = 9 by decide); omega) (by decide) ?_
                        exact w_law_388 C hX hbl hz n kc hk x3 h hB hT hW hS (lv_sub hl [0, 1, 2, 3] rfl)
set_option maxHeartbeats 4000000 in
set_option maxRecDepth 100000 in
theorem w_law_18 {ad0 : Nat → Nat} {S0 : HS} (C : CB p s m #[Value.ref b] c meth code "TwoLevelParserLaw" 4 ret D cA z ac) (hX : va_X b L xs s s.heap) (hbl : b < s.heap.size) (hz : z = s.heap.size) (n k : Nat) : ∀ (x3 : Int32) {S : HS} {ad : Nat → Nat} {H : Heap} {locs : List Loc} {ls : Array Slot}, f_law_b18 n xs L k x3 S = some 1 → gC S ≤ 600000 ∧ gN S ≤ 7302249 → AC S0 ad0 S ad → HW D cA z ac E1 ad S H → va_S (zA z) s.heap H locs → lv_has ls 4 [(0, .ref b), (1, .ref (ad 0)), (2, .ref (ad 200)), (3, .int x3)] → GL p l e s m b below meth c S0 S H locs (F0 m 18 ls []) := by
  induction k with
  | zero => intro x3 S ad H locs ls h; cases h
  | succ k ih => intro x3 S ad H locs ls h hB hT hW hS hl; exact w_law_18B C hX hbl hz n (f_law_b18 n xs L k) (fun x3 S ad H locs ls h hB hT hW hS hl => ih x3 h hB hT hW hS hl) x3 h hB hT hW hS hl
end LAW
