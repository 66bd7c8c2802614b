-- printed by gen/walk2.py
def f_P_begin_b155 (x4 : Nat) (S : HS) : Option (Nat × HS) :=
  lt (sF S 0 2 ((gF S 0 2) + (1 : Int32))) fun S42 =>
  some (x4, S42)
def f_P_begin_b96 (x4 : Nat) (y0 : Int32) (y1 : Nat) (S : HS) : Option (Nat × HS) :=
  gd (kd y1 = 3 ∧ gD S y1 = true) <|
  lt (sF S y1 4 y0) fun S25 =>
  gd (kd x4 = 3 ∧ gD S25 x4 = true) <|
  lt (sL S25 x4 6 (0 : Int64)) fun S27 =>
  gd (kd x4 = 3 ∧ gD S27 x4 = true) <|
  lt (sL S27 x4 7 (0 : Int64)) fun S29 =>
  gd (kd x4 = 3 ∧ gD S29 x4 = true) <|
  lt (sF S29 x4 8 (-1 : Int32)) fun S31 =>
  gd (kd x4 = 3 ∧ gD S31 x4 = true) <|
  lt (sF S31 x4 9 (-1 : Int32)) fun S33 =>
  gd (kd x4 = 3 ∧ gD S33 x4 = true) <|
  lt (sF S33 x4 10 (0 : Int32)) fun S35 =>
  (if (gF S35 0 6) ≤ 0 then
  f_P_begin_b155 x4 S35
  else
  gd (kd x4 = 3 ∧ gD S35 x4 = true) <|
  gd (inR (gF S35 x4 4) 4200) <|
  ob (gX S35 3 (gF S35 x4 4).toNatClampNeg) fun j38 =>
  gd (kd j38 = 3 ∧ gD S35 j38 = true) <|
  gd (kd j38 = 3 ∧ gD S35 j38 = true) <|
  lt (sF S35 j38 1 ((gF S35 j38 1) + (1 : Int32))) fun S41 =>
  f_P_begin_b155 x4 S41)
def f_P_begin_b28 (x1 : Int32) (x2 : Int32) (x3 : Int32) (S : HS) : Option (Nat × HS) :=
  gd (inR (gF S 0 2) 4200) <|
  ob (gX S 3 (gF S 0 2).toNatClampNeg) fun j10 =>
  gd (kd j10 = 3 ∧ gD S j10 = true) <|
  lt (sF S j10 0 x1) fun S12 =>
  gd (kd j10 = 3 ∧ gD S12 j10 = true) <|
  lt (sF S12 j10 1 (0 : Int32)) fun S14 =>
  gd (kd j10 = 3 ∧ gD S14 j10 = true) <|
  lt (sF S14 j10 2 (1 : Int32)) fun S16 =>
  gd (kd j10 = 3 ∧ gD S16 j10 = true) <|
  lt (sF S16 j10 3 x2) fun S18 =>
  gd (kd j10 = 3 ∧ gD S18 j10 = true) <|
  lt (sF S18 j10 5 x3) fun S20 =>
  (if (gF S20 0 6) = 0 then
  f_P_begin_b96 j10 (-1 : Int32) j10 S20
  else
  gd (inR ((gF S20 0 6) - (1 : Int32)) 4200) <|
  ob (gX S20 5 ((gF S20 0 6) - (1 : Int32)).toNatClampNeg) fun j22 =>
  gd (kd j22 = 4 ∧ gD S20 j22 = true) <|
  f_P_begin_b96 j10 (gF S20 j22 0) j10 S20)
def f_P_begin_b23 (x1 : Int32) (x2 : Int32) (x3 : Int32) (y0 : Nat) (y1 : Int32) (S : HS) : Option (Nat × HS) :=
  gd (inR y1 4200) <|
  gd (kd y0 = 3 ∧ gD S y0 = true) <|
  lt (sX S 3 y1.toNatClampNeg (some y0)) fun S7 =>
  f_P_begin_b28 x1 x2 x3 S7
def f_P_begin (x1 : Int32) (x2 : Int32) (x3 : Int32) (S : HS) : Option (Nat × HS) :=
  gd (inR (gF S 0 2) 4200) <|
  (if (gX S 3 (gF S 0 2).toNatClampNeg) = none then
  lt (1000 + 2 * (gF S 0 2).toNatClampNeg) fun i2 =>
  gd (kd i2 = 3 ∧ gD S i2 = false ∧ ¬ (300 ≤ i2 ∧ i2 < 600)) <|
  lt (sN S i2 11) fun S4 =>
  f_P_begin_b23 x1 x2 x3 i2 (gF S 0 2) S4
  else
  f_P_begin_b28 x1 x2 x3 S)
set_option maxHeartbeats 4000000 in
set_option maxRecDepth 100000 in
theorem m_P_begin_155 {r : Nat} {S' : HS} {x4 : Nat} {S : HS} (h : f_P_begin_b155 x4 S = some (r, S')) : MN S S' := by
  unfold f_P_begin_b155 at h
  have hm : MN S S := MN.rf
  obtain ⟨S42, eS42, h⟩ := lt_some h
  have hm := hm.kR (show S42.2.2.2 = S.2.2.2 from by rw [eS42]; rfl)
  obtain ⟨hr1, hr2⟩ := Prod.mk.inj (Option.some.inj h)
  subst hr1
  subst hr2
  exact hm
set_option maxHeartbeats 4000000 in
set_option maxRecDepth 100000 in
theorem m_P_begin_96 {r : Nat} {S' : HS} {x4 : Nat} {y0 : Int32} {y1 : Nat} {S : HS} (h : f_P_begin_b96 x4 y0 y1 S = some (r, S')) : MN S S' := by
  unfold f_P_begin_b96 at h
  have hm : MN S S := MN.rf
  obtain ⟨g24, h⟩ := gd_some h
  obtain ⟨S25, eS25, h⟩ := lt_some h
  have hm := hm.kR (show S25.2.2.2 = S.2.2.2 from by rw [eS25]; rfl)
  obtain ⟨g26, h⟩ := gd_some h
  obtain ⟨S27, eS27, h⟩ := lt_some h
  have hm := hm.kR (show S27.2.2.2 = S25.2.2.2 from by rw [eS27]; rfl)
  obtain ⟨g28, h⟩ := gd_some h
  obtain ⟨S29, eS29, h⟩ := lt_some h
  have hm := hm.kR (show S29.2.2.2 = S27.2.2.2 from by rw [eS29]; rfl)
  obtain ⟨g30, h⟩ := gd_some h
  obtain ⟨S31, eS31, h⟩ := lt_some h
  have hm := hm.kR (show S31.2.2.2 = S29.2.2.2 from by rw [eS31]; rfl)
  obtain ⟨g32, h⟩ := gd_some h
  obtain ⟨S33, eS33, h⟩ := lt_some h
  have hm := hm.kR (show S33.2.2.2 = S31.2.2.2 from by rw [eS33]; rfl)
  obtain ⟨g34, h⟩ := gd_some h
  obtain ⟨S35, eS35, h⟩ := lt_some h
  have hm := hm.kR (show S35.2.2.2 = S33.2.2.2 from by rw [eS35]; rfl)
  rcases ite_or h with ⟨c133, h⟩ | ⟨c133, h⟩
  · exact hm.tr (m_P_begin_155 h)
  · obtain ⟨g36, h⟩ := gd_some h
    obtain ⟨g37, h⟩ := gd_some h
    obtain ⟨j38, ej38, h⟩ := ob_some h
    obtain ⟨g39, h⟩ := gd_some h
    obtain ⟨g40, h⟩ := gd_some h
    obtain ⟨S41, eS41, h⟩ := lt_some h
    have hm := hm.kR (show S41.2.2.2 = S35.2.2.2 from by rw [eS41]; rfl)
    exact hm.tr (m_P_begin_155 h)
set_option maxHeartbeats 4000000 in
set_option maxRecDepth 100000 in
theorem m_P_begin_28 {r : Nat} {S' : HS} {x1 : Int32} {x2 : Int32} {x3 : Int32} {S : HS} (h : f_P_begin_b28 x1 x2 x3 S = some (r, S')) : MN S S' := by
  unfold f_P_begin_b28 at h
  have hm : MN S S := MN.rf
  obtain ⟨g9, h⟩ := gd_some h
  obtain ⟨j10, ej10, h⟩ := ob_some h
  obtain ⟨g11, h⟩ := gd_some h
  obtain ⟨S12, eS12, h⟩ := lt_some h
  have hm := hm.kR (show S12.2.2.2 = S.2.2.2 from by rw [eS12]; rfl)
  obtain ⟨g13, h⟩ := gd_some h
  obtain ⟨S14, eS14, h⟩ := lt_some h
  have hm := hm.kR (show S14.2.2.2 = S12.2.2.2 from by rw [eS14]; rfl)
  obtain ⟨g15, h⟩ := gd_some h
  obtain ⟨S16, eS16, h⟩ := lt_some h
  have hm := hm.kR (show S16.2.2.2 = S14.2.2.2 from by rw [eS16]; rfl)
  obtain ⟨g17, h⟩ := gd_some h
  obtain ⟨S18, eS18, h⟩ := lt_some h
  have hm := hm.kR (show S18.2.2.2 = S16.2.2.2 from by rw [eS18]; rfl)
  obtain ⟨g19, h⟩ := gd_some h
  obtain ⟨S20, eS20, h⟩ := lt_some h
  have hm := hm.kR (show S20.2.2.2 = S18.2.2.2 from by rw [eS20]; rfl)
  rcases ite_or h with ⟨c75, h⟩ | ⟨c75, h⟩
  · exact hm.tr (m_P_begin_96 h)
  · obtain ⟨g21, h⟩ := gd_some h
    obtain ⟨j22, ej22, h⟩ := ob_some h
    obtain ⟨g23, h⟩ := gd_some h
    exact hm.tr (m_P_begin_96 h)
set_option maxHeartbeats 4000000 in
set_option maxRecDepth 100000 in
theorem m_P_begin_23 {r : Nat} {S' : HS} {x1 : Int32} {x2 : Int32} {x3 : Int32} {y0 : Nat} {y1 : Int32} {S : HS} (h : f_P_begin_b23 x1 x2 x3 y0 y1 S = some (r, S')) : MN S S' := by
  unfold f_P_begin_b23 at h
  have hm : MN S S := MN.rf
  obtain ⟨g6, h⟩ := gd_some h
  obtain ⟨g8, h⟩ := gd_some h
  obtain ⟨S7, eS7, h⟩ := lt_some h
  have hm := hm.kR (show S7.2.2.2 = S.2.2.2 from by rw [eS7]; rfl)
  exact hm.tr (m_P_begin_28 h)
set_option maxHeartbeats 4000000 in
set_option maxRecDepth 100000 in
theorem m_P_begin {x1 : Int32} {x2 : Int32} {x3 : Int32} {S : HS} {r : Nat} {S' : HS} (h : f_P_begin x1 x2 x3 S = some (r, S')) : MN S S' := by
  unfold f_P_begin at h
  have hm : MN S S := MN.rf
  obtain ⟨g1, h⟩ := gd_some h
  rcases ite_or h with ⟨c9, h⟩ | ⟨c9, h⟩
  · obtain ⟨i2, ei2, h⟩ := lt_some h
    obtain ⟨g3, h⟩ := gd_some h
    obtain ⟨S4, eS4, h⟩ := lt_some h
    have hm := hm.tr (MN.nw eS4)
    exact hm.tr (m_P_begin_23 h)
  · exact hm.tr (m_P_begin_28 h)
section WA
variable {p : Program} {l : Launch} {e : Env} {s : State} {m : MethodId} {args : Array Value} {below : List Frame} {meth : Method} {c : Code} {D : va_G} {cA : Nat → ClassId} {z : Nat} {ac : Nat → Nat}
set_option maxHeartbeats 4000000 in
set_option maxRecDepth 100000 in
theorem w_P_begin_155 {ad0 ad : Nat → Nat} {S0 : HS} (C : CB p s m args c meth b_P_begin "TwoLevelParser" 5 (some (.object "TwoLevelParser$Node")) D cA z ac) {r : Nat} {S' : HS} (x4 : Nat) {S : HS} {H : Heap} {locs : List Loc} {ls : Array Slot} (h : f_P_begin_b155 x4 S = some (r, S')) (hT : AC S0 ad0 S ad) (hW : HW D cA z ac E1 ad S H) (hS : va_S (zA z) s.heap H locs) (hl : lv_has ls 5 [(0, .ref (ad 0)), (4, .ref (ad x4))]) : GA p l e 2 s m args below meth c D cA z ac E1 ad0 S0 (fun a => some (.ref (a r))) S' S H locs (F0 m 155 ls []) := by
  obtain ⟨⟨hx, hb, hml, hown, hts⟩, hK, hr, hlo⟩ := id C
  have hF : MN S S' := m_P_begin_155 h
  unfold f_P_begin_b155 at h
  refine lv_aload_n hx hb d_P_begin_155 rfl (lv_at hl 0 rfl) ?_
  refine lv_dup hx hb d_P_begin_156 rfl ?_
  refine hg_i C hW 0 2 (hW.fx 0 rfl) rfl q_P (by decide) rfl (lkF C kf_P_179) d_P_begin_157 ?_
  refine lv_iconst (v := 1) hx hb d_P_begin_160 (by decide) ?_
  refine lv_iadd hx hb d_P_begin_161 ?_
  obtain ⟨S42, eS42, h⟩ := lt_some h
  refine hp_i C hW hS 0 2 (hW.fx 0 rfl) rfl q_P (by decide) rfl rfl rfl (lkF C kf_P_179) eS42 d_P_begin_162 (fun H locs hW hS => ?_)
  have hkS42 : S42.2.2.2 = S.2.2.2 := by rw [eS42]; rfl
  refine ac_w hkS42 ?_
  have hT := hT.k hkS42
  have hF := hF.kL hkS42
  refine lv_aload hx hb d_P_begin_165 (lv_at hl 1 rfl) ?_
  obtain ⟨hr1, hr2⟩ := Prod.mk.inj (Option.some.inj h)
  subst hr1
  subst hr2
  exact ea_r C hT hW hS d_P_begin_167
set_option maxHeartbeats 4000000 in
set_option maxRecDepth 100000 in
theorem w_P_begin_96 {ad0 ad : Nat → Nat} {S0 : HS} (C : CB p s m args c meth b_P_begin "TwoLevelParser" 5 (some (.object "TwoLevelParser$Node")) D cA z ac) {r : Nat} {S' : HS} (x4 : Nat) (y0 : Int32) (y1 : Nat) {S : HS} {H : Heap} {locs : List Loc} {ls : Array Slot} (h : f_P_begin_b96 x4 y0 y1 S = some (r, S')) (hT : AC S0 ad0 S ad) (hW : HW D cA z ac E1 ad S H) (hS : va_S (zA z) s.heap H locs) (hl : lv_has ls 5 [(0, .ref (ad 0)), (4, .ref (ad x4))]) : GA p l e 2 s m args below meth c D cA z ac E1 ad0 S0 (fun a => some (.ref (a r))) S' S H locs (F0 m 96 ls [.int (y0), .ref (ad y1)]) := by
  obtain ⟨⟨hx, hb, hml, hown, hts⟩, hK, hr, hlo⟩ := id C
  have hF : MN S S' := m_P_begin_96 h
  unfold f_P_begin_b96 at h
  obtain ⟨g24, h⟩ := gd_some h
  obtain ⟨S25, eS25, h⟩ := lt_some h
  refine hp_i C hW hS y1 4 g24.2 g24.1 q_N (by decide) rfl rfl rfl (lkN C kf_P_263) eS25 d_P_begin_96 (fun H locs hW hS => ?_)
  have hkS25 : S25.2.2.2 = S.2.2.2 := by rw [eS25]; rfl
  refine ac_w hkS25 ?_
  have hT := hT.k hkS25
  have hF := hF.kL hkS25
  refine lv_aload hx hb d_P_begin_99 (lv_at hl 1 rfl) ?_
  refine lv_lconst (v := 0) hx hb d_P_begin_101 (by decide) ?_
  obtain ⟨g26, h⟩ := gd_some h
  obtain ⟨S27, eS27, h⟩ := lt_some h
  refine hp_l C hW hS x4 6 g26.2 g26.1 q_N (by decide) rfl rfl rfl (lkN C kf_P_266) eS27 d_P_begin_102 (fun H locs hW hS => ?_)
  have hkS27 : S27.2.2.2 = S25.2.2.2 := by rw [eS27]; rfl
  refine ac_w hkS27 ?_
  have hT := hT.k hkS27
  have hF := hF.kL hkS27
  refine lv_aload hx hb d_P_begin_105 (lv_at hl 1 rfl) ?_
  refine lv_lconst (v := 0) hx hb d_P_begin_107 (by decide) ?_
  obtain ⟨g28, h⟩ := gd_some h
  obtain ⟨S29, eS29, h⟩ := lt_some h
  refine hp_l C hW hS x4 7 g28.2 g28.1 q_N (by decide) rfl rfl rfl (lkN C kf_P_269) eS29 d_P_begin_108 (fun H locs hW hS => ?_)
  have hkS29 : S29.2.2.2 = S27.2.2.2 := by rw [eS29]; rfl
  refine ac_w hkS29 ?_
  have hT := hT.k hkS29
  have hF := hF.kL hkS29
  refine lv_aload hx hb d_P_begin_111 (lv_at hl 1 rfl) ?_
  refine lv_iconst (v := -1) hx hb d_P_begin_113 (by decide) ?_
  obtain ⟨g30, h⟩ := gd_some h
  obtain ⟨S31, eS31, h⟩ := lt_some h
  refine hp_i C hW hS x4 8 g30.2 g30.1 q_N (by decide) rfl rfl rfl (lkN C kf_P_272) eS31 d_P_begin_114 (fun H locs hW hS => ?_)
  have hkS31 : S31.2.2.2 = S29.2.2.2 := by rw [eS31]; rfl
  refine ac_w hkS31 ?_
  have hT := hT.k hkS31
  have hF := hF.kL hkS31
  refine lv_aload hx hb d_P_begin_117 (lv_at hl 1 rfl) ?_
  refine lv_iconst (v := -1) hx hb d_P_begin_119 (by decide) ?_
  obtain ⟨g32, h⟩ := gd_some h
  obtain ⟨S33, eS33, h⟩ := lt_some h
  refine hp_i C hW hS x4 9 g32.2 g32.1 q_N (by decide) rfl rfl rfl (lkN C kf_P_275) eS33 d_P_begin_120 (fun H locs hW hS => ?_)
  have hkS33 : S33.2.2.2 = S31.2.2.2 := by rw [eS33]; rfl
  refine ac_w hkS33 ?_
  have hT := hT.k hkS33
  have hF := hF.kL hkS33
  refine lv_aload hx hb d_P_begin_123 (lv_at hl 1 rfl) ?_
  refine lv_iconst (v := 0) hx hb d_P_begin_125 (by decide) ?_
  obtain ⟨g34, h⟩ := gd_some h
  obtain ⟨S35, eS35, h⟩ := lt_some h
  refine hp_i C hW hS x4 10 g34.2 g34.1 q_N (by decide) rfl rfl rfl (lkN C kf_P_278) eS35 d_P_begin_126 (fun H locs hW hS => ?_)
  have hkS35 : S35.2.2.2 = S33.2.2.2 := by rw [eS35]; rfl
  refine ac_w hkS35 ?_
  have hT := hT.k hkS35
  have hF := hF.kL hkS35
  refine lv_aload_n hx hb d_P_begin_129 rfl (lv_at hl 0 rfl) ?_
  refine hg_i C hW 0 6 (hW.fx 0 rfl) rfl q_P (by decide) rfl (lkF C kf_P_259) d_P_begin_130 ?_
  refine lv_if_le (tgt := 155) hx hb d_P_begin_133 (by decide) (fun c133 => ?_) (fun c133 => ?_)
  · have h := ite_t c133 h
    exact w_P_begin_155 C x4 h hT hW hS (lv_sub hl [0, 1] rfl)
  · have h := ite_f c133 h
    refine lv_aload_n hx hb d_P_begin_136 rfl (lv_at hl 0 rfl) ?_
    refine hg_r (j := 3) C hW 0 1 (hW.fx 0 rfl) rfl q_P (by decide) rfl (hW.fn (E := E1) (i := 0) (k := 1) rfl) (lkF C kf_P_118) d_P_begin_137 ?_
    refine lv_aload hx hb d_P_begin_140 (lv_at hl 1 rfl) ?_
    obtain ⟨g36, h⟩ := gd_some h
    refine hg_i C hW x4 4 g36.2 g36.1 q_N (by decide) rfl (lkN C kf_P_263) d_P_begin_142 ?_
    obtain ⟨g37, h⟩ := gd_some h
    obtain ⟨j38, ej38, h⟩ := ob_some h
    refine ha_r (t := 3) (ck := 13) (j := j38) C hW 3 (hW.fx 3 rfl) rfl (by decide) rfl rfl g37 ej38 d_P_begin_145 ?_
    refine lv_dup hx hb d_P_begin_146 rfl ?_
    obtain ⟨g39, h⟩ := gd_some h
    refine hg_i C hW j38 1 g39.2 g39.1 q_N (by decide) rfl (lkN C kf_P_249) d_P_begin_147 ?_
    refine lv_iconst (v := 1) hx hb d_P_begin_150 (by decide) ?_
    refine lv_iadd hx hb d_P_begin_151 ?_
    obtain ⟨g40, h⟩ := gd_some h
    obtain ⟨S41, eS41, h⟩ := lt_some h
    refine hp_i C hW hS j38 1 g40.2 g40.1 q_N (by decide) rfl rfl rfl (lkN C kf_P_249) eS41 d_P_begin_152 (fun H locs hW hS => ?_)
    have hkS41 : S41.2.2.2 = S35.2.2.2 := by rw [eS41]; rfl
    refine ac_w hkS41 ?_
    have hT := hT.k hkS41
    have hF := hF.kL hkS41
    exact w_P_begin_155 C x4 h hT hW hS (lv_sub hl [0, 1] rfl)
set_option maxHeartbeats 4000000 in
set_option maxRecDepth 100000 in
theorem w_P_begin_28 {ad0 ad : Nat → Nat} {S0 : HS} (C : CB p s m args c meth b_P_begin "TwoLevelParser" 5 (some (.object "TwoLevelParser$Node")) D cA z ac) {r : Nat} {S' : HS} (x1 : Int32) (x2 : Int32) (x3 : Int32) {S : HS} {H : Heap} {locs : List Loc} {ls : Array Slot} (h : f_P_begin_b28 x1 x2 x3 S = some (r, S')) (hT : AC S0 ad0 S ad) (hW : HW D cA z ac E1 ad S H) (hS : va_S (zA z) s.heap H locs) (hl : lv_has ls 5 [(0, .ref (ad 0)), (1, .int (x1)), (2, .int (x2)), (3, .int (x3))]) : GA p l e 2 s m args below meth c D cA z ac E1 ad0 S0 (fun a => some (.ref (a r))) S' S H locs (F0 m 28 ls []) := by
  obtain ⟨⟨hx, hb, hml, hown, hts⟩, hK, hr, hlo⟩ := id C
  have hF : MN S S' := m_P_begin_28 h
  unfold f_P_begin_b28 at h
  refine lv_aload_n hx hb d_P_begin_28 rfl (lv_at hl 0 rfl) ?_
  refine hg_r (j := 3) C hW 0 1 (hW.fx 0 rfl) rfl q_P (by decide) rfl (hW.fn (E := E1) (i := 0) (k := 1) rfl) (lkF C kf_P_118) d_P_begin_29 ?_
  refine lv_aload_n hx hb d_P_begin_32 rfl (lv_at hl 0 rfl) ?_
  refine hg_i C hW 0 2 (hW.fx 0 rfl) rfl q_P (by decide) rfl (lkF C kf_P_179) d_P_begin_33 ?_
  obtain ⟨g9, h⟩ := gd_some h
  obtain ⟨j10, ej10, h⟩ := ob_some h
  refine ha_r (t := 3) (ck := 13) (j := j10) C hW 3 (hW.fx 3 rfl) rfl (by decide) rfl rfl g9 ej10 d_P_begin_36 ?_
  refine lv_astore (lv' := [(4, .ref (ad j10)), (0, .ref (ad 0)), (1, .int (x1)), (2, .int (x2)), (3, .int (x3))]) hx hb d_P_begin_37 hl (by decide) rfl (fun ls hl => ?_)
  refine lv_aload hx hb d_P_begin_39 (lv_at hl 0 rfl) ?_
  refine lv_iload_n hx hb d_P_begin_41 rfl (lv_at hl 2 rfl) ?_
  obtain ⟨g11, h⟩ := gd_some h
  obtain ⟨S12, eS12, h⟩ := lt_some h
  refine hp_i C hW hS j10 0 g11.2 g11.1 q_N (by decide) rfl rfl rfl (lkN C kf_P_246) eS12 d_P_begin_42 (fun H locs hW hS => ?_)
  have hkS12 : S12.2.2.2 = S.2.2.2 := by rw [eS12]; rfl
  refine ac_w hkS12 ?_
  have hT := hT.k hkS12
  have hF := hF.kL hkS12
  refine lv_aload hx hb d_P_begin_45 (lv_at hl 0 rfl) ?_
  refine lv_iconst (v := 0) hx hb d_P_begin_47 (by decide) ?_
  obtain ⟨g13, h⟩ := gd_some h
  obtain ⟨S14, eS14, h⟩ := lt_some h
  refine hp_i C hW hS j10 1 g13.2 g13.1 q_N (by decide) rfl rfl rfl (lkN C kf_P_249) eS14 d_P_begin_48 (fun H locs hW hS => ?_)
  have hkS14 : S14.2.2.2 = S12.2.2.2 := by rw [eS14]; rfl
  refine ac_w hkS14 ?_
  have hT := hT.k hkS14
  have hF := hF.kL hkS14
  refine lv_aload hx hb d_P_begin_51 (lv_at hl 0 rfl) ?_
  refine lv_iconst (v := 1) hx hb d_P_begin_53 (by decide) ?_
  obtain ⟨g15, h⟩ := gd_some h
  obtain ⟨S16, eS16, h⟩ := lt_some h
  refine hp_i C hW hS j10 2 g15.2 g15.1 q_N (by decide) rfl rfl rfl (lkN C kf_P_252) eS16 d_P_begin_54 (fun H locs hW hS => ?_)
  have hkS16 : S16.2.2.2 = S14.2.2.2 := by rw [eS16]; rfl
  refine ac_w hkS16 ?_
  have hT := hT.k hkS16
  have hF := hF.kL hkS16
  refine lv_aload hx hb d_P_begin_57 (lv_at hl 0 rfl) ?_
  refine lv_iload_n hx hb d_P_begin_59 rfl (lv_at hl 3 rfl) ?_
  obtain ⟨g17, h⟩ := gd_some h
  obtain ⟨S18, eS18, h⟩ := lt_some h
  refine hp_i C hW hS j10 3 g17.2 g17.1 q_N (by decide) rfl rfl rfl (lkN C kf_P_255) eS18 d_P_begin_60 (fun H locs hW hS => ?_)
  have hkS18 : S18.2.2.2 = S16.2.2.2 := by rw [eS18]; rfl
  refine ac_w hkS18 ?_
  have hT := hT.k hkS18
  have hF := hF.kL hkS18
  refine lv_aload hx hb d_P_begin_63 (lv_at hl 0 rfl) ?_
  refine lv_iload_n hx hb d_P_begin_65 rfl (lv_at hl 4 rfl) ?_
  obtain ⟨g19, h⟩ := gd_some h
  obtain ⟨S20, eS20, h⟩ := lt_some h
  refine hp_i C hW hS j10 5 g19.2 g19.1 q_N (by decide) rfl rfl rfl (lkN C kf_P_256) eS20 d_P_begin_66 (fun H locs hW hS => ?_)
  have hkS20 : S20.2.2.2 = S18.2.2.2 := by rw [eS20]; rfl
  refine ac_w hkS20 ?_
  have hT := hT.k hkS20
  have hF := hF.kL hkS20
  refine lv_aload hx hb d_P_begin_69 (lv_at hl 0 rfl) ?_
  refine lv_aload_n hx hb d_P_begin_71 rfl (lv_at hl 1 rfl) ?_
  refine hg_i C hW 0 6 (hW.fx 0 rfl) rfl q_P (by decide) rfl (lkF C kf_P_259) d_P_begin_72 ?_
  refine lv_if_ne (tgt := 82) hx hb d_P_begin_75 (by decide) (fun c75 => ?_) (fun c75 => ?_)
  · have h := ite_f c75 h
    refine lv_aload_n hx hb d_P_begin_82 rfl (lv_at hl 1 rfl) ?_
    refine hg_r (j := 5) C hW 0 5 (hW.fx 0 rfl) rfl q_P (by decide) rfl (hW.fn (E := E1) (i := 0) (k := 5) rfl) (lkF C kf_P_130) d_P_begin_83 ?_
    refine lv_aload_n hx hb d_P_begin_86 rfl (lv_at hl 1 rfl) ?_
    refine hg_i C hW 0 6 (hW.fx 0 rfl) rfl q_P (by decide) rfl (lkF C kf_P_259) d_P_begin_87 ?_
    refine lv_iconst (v := 1) hx hb d_P_begin_90 (by decide) ?_
    refine lv_isub hx hb d_P_begin_91 ?_
    obtain ⟨g21, h⟩ := gd_some h
    obtain ⟨j22, ej22, h⟩ := ob_some h
    refine ha_r (t := 5) (ck := 15) (j := j22) C hW 5 (hW.fx 5 rfl) rfl (by decide) rfl rfl g21 ej22 d_P_begin_92 ?_
    obtain ⟨g23, h⟩ := gd_some h
    refine hg_i C hW j22 0 g23.2 g23.1 q_O (by decide) rfl (lkN C kf_P_262) d_P_begin_93 ?_
    exact w_P_begin_96 C j10 (gF S20 j22 0) j10 h hT hW hS (lv_sub hl [1, 0] rfl)
  · have h := ite_t c75 h
    refine lv_iconst (v := -1) hx hb d_P_begin_78 (by decide) ?_
    refine lv_goto (tgt := 96) hx hb d_P_begin_79 (by decide) ?_
    exact w_P_begin_96 C j10 (-1 : Int32) j10 h hT hW hS (lv_sub hl [1, 0] rfl)
set_option maxHeartbeats 4000000 in
set_option maxRecDepth 100000 in
theorem w_P_begin_23 {ad0 ad : Nat → Nat} {S0 : HS} (C : CB p s m args c meth b_P_begin "TwoLevelParser" 5 (some (.object "TwoLevelParser$Node")) D cA z ac) {r : Nat} {S' : HS} (x1 : Int32) (x2 : Int32) (x3 : Int32) (y0 : Nat) (y1 : Int32) {S : HS} {H : Heap} {locs : List Loc} {ls : Array Slot} (h : f_P_begin_b23 x1 x2 x3 y0 y1 S = some (r, S')) (hT : AC S0 ad0 S ad) (hW : HW D cA z ac E1 ad S H) (hS : va_S (zA z) s.heap H locs) (hl : lv_has ls 5 [(0, .ref (ad 0)), (1, .int (x1)), (2, .int (x2)), (3, .int (x3))]) : GA p l e 2 s m args below meth c D cA z ac E1 ad0 S0 (fun a => some (.ref (a r))) S' S H locs (F0 m 23 ls [.ref (ad y0), .int (y1), .ref (ad 3)]) := by
  obtain ⟨⟨hx, hb, hml, hown, hts⟩, hK, hr, hlo⟩ := id C
  have hF : MN S S' := m_P_begin_23 h
  unfold f_P_begin_b23 at h
  refine lv_dup hx hb d_P_begin_23 rfl ?_
  refine hx_I0 (i := y0) (As := []) (rest := [.ref (ad y0), .int (y1), .ref (ad 3)]) C hW hS (s_N_init y0) (Or.inr ⟨_, km_P_245⟩) kv_N_init kn_N kw_N_init kd_N_init rfl ⟨(Nat.le_of_ble_eq_true rfl), (Nat.le_of_ble_eq_true rfl)⟩ (hF.le _) rfl hl.1 rfl (Nat.le_of_ble_eq_true rfl) d_P_begin_24 (fun H locs hW hS => ?_)
  obtain ⟨g6, h⟩ := gd_some h
  obtain ⟨g8, h⟩ := gd_some h
  obtain ⟨S7, eS7, h⟩ := lt_some h
  refine hs_r (t := 3) (ck := 13) C hW hS 3 (hW.fx 3 rfl) rfl (by decide) rfl rfl g6 g8.2 g8.1 q_N rfl eS7 d_P_begin_27 (fun H locs hW hS => ?_)
  have hkS7 : S7.2.2.2 = S.2.2.2 := by rw [eS7]; rfl
  refine ac_w hkS7 ?_
  have hT := hT.k hkS7
  have hF := hF.kL hkS7
  exact w_P_begin_28 C x1 x2 x3 h hT hW hS (lv_sub hl [0, 1, 2, 3] rfl)
set_option maxHeartbeats 4000000 in
set_option maxRecDepth 100000 in
theorem s_P_begin (x1 : Int32) (x2 : Int32) (x3 : Int32) {ad : Nat → Nat} {S : HS} {r : Nat} {S' : HS} (h : f_P_begin x1 x2 x3 S = some (r, S')) : Met l y_P_begin (.code y_P_begin b_P_begin 5 (some (.object "TwoLevelParser$Node")) :: lw_g) (rmD 2 (gC S' - gC S) (gN S' - gN S)) (PcH D cA z ac E1 ad [.ref (ad 0), .int (x1), .int (x2), .int (x3)] S) (QA D cA z ac E1 ad S (fun a => some (.ref (a r))) S') (gC S' - gC S) (gN S' - gN S) (zA z) := by
  refine Met.ofHA (own := "TwoLevelParser") (by decide) rfl (Nat.le_of_ble_eq_true rfl) ?_
  intro p e s m args below meth c H ls C hnm hW hS hl
  have hl : lv_has ls 5 [(0, .ref (ad 0)), (1, .int (x1)), (2, .int (x2)), (3, .int (x3))] := hl
  obtain ⟨⟨hx, hb, hml, hown, hts⟩, hK, hr, hlo⟩ := id C
  have hF : MN S S' := m_P_begin h
  have hT : AC S ad S ad := AC.rf
  unfold f_P_begin at h
  refine lv_aload_n hx hb d_P_begin_0 rfl (lv_at hl 0 rfl) ?_
  refine hg_r (j := 3) C hW 0 1 (hW.fx 0 rfl) rfl q_P (by decide) rfl (hW.fn (E := E1) (i := 0) (k := 1) rfl) (lkF C kf_P_118) d_P_begin_1 ?_
  refine lv_aload_n hx hb d_P_begin_4 rfl (lv_at hl 0 rfl) ?_
  refine hg_i C hW 0 2 (hW.fx 0 rfl) rfl q_P (by decide) rfl (lkF C kf_P_179) d_P_begin_5 ?_
  obtain ⟨g1, h⟩ := gd_some h
  refine ha_q (t := 3) (ck := 13) C hW 3 (hW.fx 3 rfl) rfl (by decide) rfl rfl g1 d_P_begin_8 ?_
  refine hj_nn (tgt := 28) C d_P_begin_9 (by decide) (fun c9 => ?_) (fun c9 => ?_)
  · have h := ite_t c9 h
    refine lv_aload_n hx hb d_P_begin_12 rfl (lv_at hl 0 rfl) ?_
    refine hg_r (j := 3) C hW 0 1 (hW.fx 0 rfl) rfl q_P (by decide) rfl (hW.fn (E := E1) (i := 0) (k := 1) rfl) (lkF C kf_P_118) d_P_begin_13 ?_
    refine lv_aload_n hx hb d_P_begin_16 rfl (lv_at hl 0 rfl) ?_
    refine hg_i C hW 0 2 (hW.fx 0 rfl) rfl q_P (by decide) rfl (lkF C kf_P_179) d_P_begin_17 ?_
    obtain ⟨i2, ei2, h⟩ := lt_some h
    obtain ⟨g3, h⟩ := gd_some h
    obtain ⟨S4, eS4, h⟩ := lt_some h
    have hX := hW
    refine hn_o (i := i2) C hW hS hT (hW.zl (hW.fx 0 rfl)) g3.1 q_N g3.2.1 g3.2.2 (fin_dyn (Or.inl g3.1)) eS4 kc_P_116 kt_N kn_N (MN.le (m_P_begin_23 h) _) d_P_begin_20 (fun ad5 H hA hT hW hS => ?_)
    have hl : lv_has ls 5 [(0, .ref (ad5 0)), (1, .int (x1)), (2, .int (x2)), (3, .int (x3))] := by rw [hA 0 (hX.fx 0 rfl)]; exact lv_sub hl [0, 1, 2, 3] rfl
    rw [← hA 3 (hX.fx 3 rfl)]
    exact w_P_begin_23 C x1 x2 x3 i2 (gF S 0 2) h hT hW hS (lv_sub hl [0, 1, 2, 3] rfl)
  · have h := ite_f c9 h
    exact w_P_begin_28 C x1 x2 x3 h hT hW hS (lv_sub hl [0, 1, 2, 3] rfl)
end WA
def f_P_expression_b113 (n : Nat) (x2 : Int32) (x4 : Int32) (S : HS) : Option HS :=
  gd (inR (gF S 0 6) 4200) <|
  ob (gX S 5 (gF S 0 6).toNatClampNeg) fun j35 =>
  gd (kd j35 = 4 ∧ gD S j35 = true) <|
  lt (sF S j35 0 ((gF S 0 2) - (1 : Int32))) fun S37 =>
  ob (f_P_formOf x4) fun r38 =>
  gd (kd j35 = 4 ∧ gD S37 j35 = true) <|
  gd (isT r38) <|
  lt (sX S37 j35 1 (some r38)) fun S40 =>
  gd (kd j35 = 4 ∧ gD S40 j35 = true) <|
  lt (sF S40 j35 2 (0 : Int32)) fun S43 =>
  gd (kd j35 = 4 ∧ gD S43 j35 = true) <|
  lt (sF S43 j35 3 x2) fun S45 =>
  lt (sF S45 0 6 ((gF S45 0 6) + (1 : Int32))) fun S46 =>
  some S46
def f_P_expression_b108 (n : Nat) (x2 : Int32) (x4 : Int32) (y0 : Nat) (y1 : Int32) (S : HS) : Option HS :=
  gd (inR y1 4200) <|
  gd (kd y0 = 4 ∧ gD S y0 = true) <|
  lt (sX S 5 y1.toNatClampNeg (some y0)) fun S32 =>
  f_P_expression_b113 n x2 x4 S32
def f_P_expression_b83 (n : Nat) (x2 : Int32) (x4 : Int32) (y0 : Nat) (S : HS) : Option HS :=
  gd (inR (gF S 0 6) 4200) <|
  (if (gX S 5 (gF S 0 6).toNatClampNeg) = none then
  lt (1001 + 2 * (gF S 0 6).toNatClampNeg) fun i26 =>
  gd (kd i26 = 4 ∧ gD S i26 = false ∧ ¬ (300 ≤ i26 ∧ i26 < 600)) <|
  lt (sN S i26 4) fun S28 =>
  f_P_expression_b108 n x2 x4 i26 (gF S 0 6) S28
  else
  f_P_expression_b113 n x2 x4 S)
def f_P_expression_b56 (n : Nat) (x2 : Int32) (x3 : Int32) (y0 : Int32) (S : HS) : Option HS :=
  lt y0 fun v16 =>
  (if 0 ≤ v16 then
  ob (f_X_next n S) fun S17 =>
  ob2 (f_P_begin v16 x3 x2 S17) fun r20 S19 =>
  f_P_expression_b83 n x2 v16 r20 S19
  else
  ob (f_P_refuse S) fun S21 =>
  some S21)
def f_P_expression_b201 (n : Nat) (S : HS) : Option HS :=
  ob (f_P_refuse S) fun S12 =>
  some S12
def f_P_expression_b310 (n : Nat) (y0 : Int32) (y1 : Nat) (S : HS) : Option HS :=
  gd (kd y1 = 3 ∧ gD S y1 = true) <|
  lt (sF S y1 8 y0) fun S54 =>
  ob (f_X_next n S54) fun S55 =>
  some S55
def f_P_expression_b291 (n : Nat) (x3 : Int32) (x4 : Nat) (y0 : Int64) (y1 : Nat) (S : HS) : Option HS :=
  gd (kd y1 = 3 ∧ gD S y1 = true) <|
  lt (sL S y1 6 y0) fun S51 =>
  gd (kd x4 = 3 ∧ gD S51 x4 = true) <|
  (if (gF S51 x4 0) = (1 : Int32) then
  f_P_expression_b310 n x3 x4 S51
  else
  f_P_expression_b310 n (-1 : Int32) x4 S51)
def f_P_expression_b266 (n : Nat) (x3 : Int32) (x4 : Nat) (y0 : Int32) (y1 : Nat) (S : HS) : Option HS :=
  gd (kd y1 = 3 ∧ gD S y1 = true) <|
  lt (sF S y1 10 y0) fun S48 =>
  gd (kd x4 = 3 ∧ gD S48 x4 = true) <|
  (if (gF S48 x4 0) = (1 : Int32) then
  f_P_expression_b291 n x3 x4 (gL S48 1 5) x4 S48
  else
  f_P_expression_b291 n x3 x4 (0 : Int64) x4 S48)
def f_P_expression_b243 (n : Nat) (x3 : Int32) (y0 : Nat) (S : HS) : Option HS :=
  gd (kd y0 = 3 ∧ gD S y0 = true) <|
  (if (gF S y0 0) = 0 then
  f_P_expression_b266 n x3 y0 (gF S 1 6) y0 S
  else
  f_P_expression_b266 n x3 y0 (0 : Int32) y0 S)
def f_P_expression_b238 (n : Nat) (x2 : Int32) (x3 : Int32) (y0 : Int32) (S : HS) : Option HS :=
  ob2 (f_P_begin y0 x3 x2 S) fun r24 S23 =>
  f_P_expression_b243 n x3 r24 S23
def f_P_expression_b206 (n : Nat) (x2 : Int32) (x3 : Int32) (S : HS) : Option HS :=
  ob (gX S 1 3) fun j13 =>
  gd (isSo j13 ∧ isSo 503) (if j13 = 503 then
  f_P_expression_b238 n x2 x3 (0 : Int32) S
  else
  ob (f_P_isWord n 302 S) fun r15 =>
  (if r15 = 0 then
  f_P_expression_b238 n x2 x3 (1 : Int32) S
  else
  f_P_expression_b238 n x2 x3 (2 : Int32) S))
def f_P_expression (n : Nat) (x1 : Int32) (x2 : Int32) (S : HS) : Option HS :=
  lt (gF S 1 4) fun v1 =>
  ob (gX S 1 3) fun j2 =>
  gd (isSo j2 ∧ isSo 500) (if j2 = 500 then
  ob (f_X_next n S) fun S8 =>
  ob (gX S8 1 3) fun j9 =>
  gd (isSo j9 ∧ isSo 502) (if j9 = 502 then
  ob (f_P_kindOf n (gL S8 1 5) x1) fun r11 =>
  f_P_expression_b56 n x2 v1 r11 S8
  else
  f_P_expression_b56 n x2 v1 (-1 : Int32) S8)
  else
  (if x1 = 0 then
  f_P_expression_b201 n S
  else
  ob (gX S 1 3) fun j4 =>
  gd (isSo j4 ∧ isSo 503) (if j4 = 503 then
  f_P_expression_b206 n x2 v1 S
  else
  ob (f_P_isWord n 302 S) fun r6 =>
  (if r6 = 0 then
  ob (f_P_isName n S) fun r7 =>
  (if r7 = 0 then
  f_P_expression_b201 n S
  else
  f_P_expression_b206 n x2 v1 S)
  else
  f_P_expression_b206 n x2 v1 S))))
set_option maxHeartbeats 4000000 in
set_option maxRecDepth 100000 in
theorem m_P_expression_113 {n : Nat} {S' : HS} {x2 : Int32} {x4 : Int32} {S : HS} (h : f_P_expression_b113 n x2 x4 S = some S') : MN S S' := by
  unfold f_P_expression_b113 at h
  have hm : MN S S := MN.rf
  obtain ⟨g34, h⟩ := gd_some h
  obtain ⟨j35, ej35, h⟩ := ob_some h
  obtain ⟨g36, h⟩ := gd_some h
  obtain ⟨S37, eS37, h⟩ := lt_some h
  have hm := hm.kR (show S37.2.2.2 = S.2.2.2 from by rw [eS37]; rfl)
  obtain ⟨r38, er38, h⟩ := ob_some h
  obtain ⟨g39, h⟩ := gd_some h
  obtain ⟨g41, h⟩ := gd_some h
  obtain ⟨S40, eS40, h⟩ := lt_some h
  have hm := hm.kR (show S40.2.2.2 = S37.2.2.2 from by rw [eS40]; rfl)
  obtain ⟨g42, h⟩ := gd_some h
  obtain ⟨S43, eS43, h⟩ := lt_some h
  have hm := hm.kR (show S43.2.2.2 = S40.2.2.2 from by rw [eS43]; rfl)
  obtain ⟨g44, h⟩ := gd_some h
  obtain ⟨S45, eS45, h⟩ := lt_some h
  have hm := hm.kR (show S45.2.2.2 = S43.2.2.2 from by rw [eS45]; rfl)
  obtain ⟨S46, eS46, h⟩ := lt_some h
  have hm := hm.kR (show S46.2.2.2 = S45.2.2.2 from by rw [eS46]; rfl)
  have h := Option.some.inj h
  subst h
  exact hm
set_option maxHeartbeats 4000000 in
set_option maxRecDepth 100000 in
theorem m_P_expression_108 {n : Nat} {S' : HS} {x2 : Int32} {x4 : Int32} {y0 : Nat} {y1 : Int32} {S : HS} (h : f_P_expression_b108 n x2 x4 y0 y1 S = some S') : MN S S' := by
  unfold f_P_expression_b108 at h
  have hm : MN S S := MN.rf
  obtain ⟨g31, h⟩ := gd_some h
  obtain ⟨g33, h⟩ := gd_some h
  obtain ⟨S32, eS32, h⟩ := lt_some h
  have hm := hm.kR (show S32.2.2.2 = S.2.2.2 from by rw [eS32]; rfl)
  exact hm.tr (m_P_expression_113 h)
set_option maxHeartbeats 4000000 in
set_option maxRecDepth 100000 in
theorem m_P_expression_83 {n : Nat} {S' : HS} {x2 : Int32} {x4 : Int32} {y0 : Nat} {S : HS} (h : f_P_expression_b83 n x2 x4 y0 S = some S') : MN S S' := by
  unfold f_P_expression_b83 at h
  have hm : MN S S := MN.rf
  obtain ⟨g25, h⟩ := gd_some h
  rcases ite_or h with ⟨c94, h⟩ | ⟨c94, h⟩
  · obtain ⟨i26, ei26, h⟩ := lt_some h
    obtain ⟨g27, h⟩ := gd_some h
    obtain ⟨S28, eS28, h⟩ := lt_some h
    have hm := hm.tr (MN.nw eS28)
    exact hm.tr (m_P_expression_108 h)
  · exact hm.tr (m_P_expression_113 h)
set_option maxHeartbeats 4000000 in
set_option maxRecDepth 100000 in
theorem m_P_expression_56 {n : Nat} {S' : HS} {x2 : Int32} {x3 : Int32} {y0 : Int32} {S : HS} (h : f_P_expression_b56 n x2 x3 y0 S = some S') : MN S S' := by
  unfold f_P_expression_b56 at h
  have hm : MN S S := MN.rf
  obtain ⟨v16, ev16, h⟩ := lt_some h
  rcases ite_or h with ⟨c60, h⟩ | ⟨c60, h⟩
  · obtain ⟨S17, eS17, h⟩ := ob_some h
    have hm := hm.kR (show S17.2.2.2 = S.2.2.2 from k_X_next eS17)
    obtain ⟨r20, S19, eS19, h⟩ := ob2_some h
    have hm := hm.tr (m_P_begin eS19)
    exact hm.tr (m_P_expression_83 h)
  · obtain ⟨S21, eS21, h⟩ := ob_some h
    have hm := hm.kR (show S21.2.2.2 = S.2.2.2 from k_P_refuse eS21)
    have h := Option.some.inj h
    subst h
    exact hm
set_option maxHeartbeats 4000000 in
set_option maxRecDepth 100000 in
theorem m_P_expression_201 {n : Nat} {S' : HS} {S : HS} (h : f_P_expression_b201 n S = some S') : MN S S' := by
  unfold f_P_expression_b201 at h
  have hm : MN S S := MN.rf
  obtain ⟨S12, eS12, h⟩ := ob_some h
  have hm := hm.kR (show S12.2.2.2 = S.2.2.2 from k_P_refuse eS12)
  have h := Option.some.inj h
  subst h
  exact hm
set_option maxHeartbeats 4000000 in
set_option maxRecDepth 100000 in
theorem m_P_expression_310 {n : Nat} {S' : HS} {y0 : Int32} {y1 : Nat} {S : HS} (h : f_P_expression_b310 n y0 y1 S = some S') : MN S S' := by
  unfold f_P_expression_b310 at h
  have hm : MN S S := MN.rf
  obtain ⟨g53, h⟩ := gd_some h
  obtain ⟨S54, eS54, h⟩ := lt_some h
  have hm := hm.kR (show S54.2.2.2 = S.2.2.2 from by rw [eS54]; rfl)
  obtain ⟨S55, eS55, h⟩ := ob_some h
  have hm := hm.kR (show S55.2.2.2 = S54.2.2.2 from k_X_next eS55)
  have h := Option.some.inj h
  subst h
  exact hm
set_option maxHeartbeats 4000000 in
set_option maxRecDepth 100000 in
theorem m_P_expression_291 {n : Nat} {S' : HS} {x3 : Int32} {x4 : Nat} {y0 : Int64} {y1 : Nat} {S : HS} (h : f_P_expression_b291 n x3 x4 y0 y1 S = some S') : MN S S' := by
  unfold f_P_expression_b291 at h
  have hm : MN S S := MN.rf
  obtain ⟨g50, h⟩ := gd_some h
  obtain ⟨S51, eS51, h⟩ := lt_some h
  have hm := hm.kR (show S51.2.2.2 = S.2.2.2 from by rw [eS51]; rfl)
  obtain ⟨g52, h⟩ := gd_some h
  rcases ite_or h with ⟨c302, h⟩ | ⟨c302, h⟩
  · exact hm.tr (m_P_expression_310 h)
  · exact hm.tr (m_P_expression_310 h)
set_option maxHeartbeats 4000000 in
set_option maxRecDepth 100000 in
theorem m_P_expression_266 {n : Nat} {S' : HS} {x3 : Int32} {x4 : Nat} {y0 : Int32} {y1 : Nat} {S : HS} (h : f_P_expression_b266 n x3 x4 y0 y1 S = some S') : MN S S' := by
  unfold f_P_expression_b266 at h
  have hm : MN S S := MN.rf
  obtain ⟨g47, h⟩ := gd_some h
  obtain ⟨S48, eS48, h⟩ := lt_some h
  have hm := hm.kR (show S48.2.2.2 = S.2.2.2 from by rw [eS48]; rfl)
  obtain ⟨g49, h⟩ := gd_some h
  rcases ite_or h with ⟨c277, h⟩ | ⟨c277, h⟩
  · exact hm.tr (m_P_expression_291 h)
  · exact hm.tr (m_P_expression_291 h)
set_option maxHeartbeats 4000000 in
set_option maxRecDepth 100000 in
theorem m_P_expression_243 {n : Nat} {S' : HS} {x3 : Int32} {y0 : Nat} {S : HS} (h : f_P_expression_b243 n x3 y0 S = some S') : MN S S' := by
  unfold f_P_expression_b243 at h
  have hm : MN S S := MN.rf
  obtain ⟨g30, h⟩ := gd_some h
  rcases ite_or h with ⟨c252, h⟩ | ⟨c252, h⟩
  · exact hm.tr (m_P_expression_266 h)
  · exact hm.tr (m_P_expression_266 h)
set_option maxHeartbeats 4000000 in
set_option maxRecDepth 100000 in
theorem m_P_expression_238 {n : Nat} {S' : HS} {x2 : Int32} {x3 : Int32} {y0 : Int32} {S : HS} (h : f_P_expression_b238 n x2 x3 y0 S = some S') : MN S S' := by
  unfold f_P_expression_b238 at h
  have hm : MN S S := MN.rf
  obtain ⟨r24, S23, eS23, h⟩ := ob2_some h
  have hm := hm.tr (m_P_begin eS23)
  exact hm.tr (m_P_expression_243 h)
set_option maxHeartbeats 4000000 in
set_option maxRecDepth 100000 in
theorem m_P_expression_206 {n : Nat} {S' : HS} {x2 : Int32} {x3 : Int32} {S : HS} (h : f_P_expression_b206 n x2 x3 S = some S') : MN S S' := by
  unfold f_P_expression_b206 at h
  have hm : MN S S := MN.rf
  obtain ⟨j13, ej13, h⟩ := ob_some h
  obtain ⟨g14, h⟩ := gd_some h
  rcases ite_or h with ⟨c217, h⟩ | ⟨c217, h⟩
  · exact hm.tr (m_P_expression_238 h)
  · obtain ⟨r15, er15, h⟩ := ob_some h
    rcases ite_or h with ⟨c230, h⟩ | ⟨c230, h⟩
    · exact hm.tr (m_P_expression_238 h)
    · exact hm.tr (m_P_expression_238 h)
set_option maxHeartbeats 4000000 in
set_option maxRecDepth 100000 in
theorem m_P_expression {n : Nat} {x1 : Int32} {x2 : Int32} {S : HS} {S' : HS} (h : f_P_expression n x1 x2 S = some S') : MN S S' := by
  unfold f_P_expression at h
  have hm : MN S S := MN.rf
  obtain ⟨v1, ev1, h⟩ := lt_some h
  obtain ⟨j2, ej2, h⟩ := ob_some h
  obtain ⟨g3, h⟩ := gd_some h
  rcases ite_or h with ⟨c18, h⟩ | ⟨c18, h⟩
  · obtain ⟨S8, eS8, h⟩ := ob_some h
    have hm := hm.kR (show S8.2.2.2 = S.2.2.2 from k_X_next eS8)
    obtain ⟨j9, ej9, h⟩ := ob_some h
    obtain ⟨g10, h⟩ := gd_some h
    rcases ite_or h with ⟨c38, h⟩ | ⟨c38, h⟩
    · obtain ⟨r11, er11, h⟩ := ob_some h
      exact hm.tr (m_P_expression_56 h)
    · exact hm.tr (m_P_expression_56 h)
  · rcases ite_or h with ⟨c169, h⟩ | ⟨c169, h⟩
    · exact hm.tr (m_P_expression_201 h)
    · obtain ⟨j4, ej4, h⟩ := ob_some h
      obtain ⟨g5, h⟩ := gd_some h
      rcases ite_or h with ⟨c182, h⟩ | ⟨c182, h⟩
      · exact hm.tr (m_P_expression_206 h)
      · obtain ⟨r6, er6, h⟩ := ob_some h
        rcases ite_or h with ⟨c191, h⟩ | ⟨c191, h⟩
        · obtain ⟨r7, er7, h⟩ := ob_some h
          rcases ite_or h with ⟨c198, h⟩ | ⟨c198, h⟩
          · exact hm.tr (m_P_expression_201 h)
          · exact hm.tr (m_P_expression_206 h)
        · exact hm.tr (m_P_expression_206 h)
section WA
variable {p : Program} {l : Launch} {e : Env} {s : State} {m : MethodId} {args : Array Value} {below : List Frame} {meth : Method} {c : Code} {D : va_G} {cA : Nat → ClassId} {z : Nat} {ac : Nat → Nat}
set_option maxHeartbeats 4000000 in
set_option maxRecDepth 100000 in
theorem w_P_expression_113 {ad0 ad : Nat → Nat} {S0 : HS} (C : CB p s m args c meth b_P_expression "TwoLevelParser" 7 none D cA z ac) (n : Nat) {S' : HS} (x2 : Int32) (x4 : Int32) {S : HS} {H : Heap} {locs : List Loc} {ls : Array Slot} (h : f_P_expression_b113 n x2 x4 S = some S') (hT : AC S0 ad0 S ad) (hW : HW D cA z ac E1 ad S H) (hS : va_S (zA z) s.heap H locs) (hl : lv_has ls 7 [(0, .ref (ad 0)), (2, .int (x2)), (4, .int (x4))]) : GA p l e 8 s m args below meth c D cA z ac E1 ad0 S0 (fun _ => none) S' S H locs (F0 m 113 ls []) := by
  obtain ⟨⟨hx, hb, hml, hown, hts⟩, hK, hr, hlo⟩ := id C
  have hF : MN S S' := m_P_expression_113 h
  unfold f_P_expression_b113 at h
  refine lv_aload_n hx hb d_P_expression_113 rfl (lv_at hl 0 rfl) ?_
  refine hg_r (j := 5) C hW 0 5 (hW.fx 0 rfl) rfl q_P (by decide) rfl (hW.fn (E := E1) (i := 0) (k := 5) rfl) (lkF C kf_P_130) d_P_expression_114 ?_
  refine lv_aload_n hx hb d_P_expression_117 rfl (lv_at hl 0 rfl) ?_
  refine hg_i C hW 0 6 (hW.fx 0 rfl) rfl q_P (by decide) rfl (lkF C kf_P_259) d_P_expression_118 ?_
  obtain ⟨g34, h⟩ := gd_some h
  obtain ⟨j35, ej35, h⟩ := ob_some h
  refine ha_r (t := 5) (ck := 15) (j := j35) C hW 5 (hW.fx 5 rfl) rfl (by decide) rfl rfl g34 ej35 d_P_expression_121 ?_
  refine lv_astore (lv' := [(6, .ref (ad j35)), (0, .ref (ad 0)), (2, .int (x2)), (4, .int (x4))]) hx hb d_P_expression_122 hl (by decide) rfl (fun ls hl => ?_)
  refine lv_aload hx hb d_P_expression_124 (lv_at hl 0 rfl) ?_
  refine lv_aload_n hx hb d_P_expression_126 rfl (lv_at hl 1 rfl) ?_
  refine hg_i C hW 0 2 (hW.fx 0 rfl) rfl q_P (by decide) rfl (lkF C kf_P_179) d_P_expression_127 ?_
  refine lv_iconst (v := 1) hx hb d_P_expression_130 (by decide) ?_
  refine lv_isub hx hb d_P_expression_131 ?_
  obtain ⟨g36, h⟩ := gd_some h
  obtain ⟨S37, eS37, h⟩ := lt_some h
  refine hp_i C hW hS j35 0 g36.2 g36.1 q_O (by decide) rfl rfl rfl (lkN C kf_P_262) eS37 d_P_expression_132 (fun H locs hW hS => ?_)
  have hkS37 : S37.2.2.2 = S.2.2.2 := by rw [eS37]; rfl
  refine ac_w hkS37 ?_
  have hT := hT.k hkS37
  have hF := hF.kL hkS37
  refine lv_aload hx hb d_P_expression_135 (lv_at hl 0 rfl) ?_
  refine lv_iload hx hb d_P_expression_137 (lv_at hl 3 rfl) ?_
  obtain ⟨r38, er38, h⟩ := ob_some h
  refine hx_S (As := [.int (x4)]) (rest := [.ref (ad j35)]) C hW hS (s_P_formOf x4 er38) km_P_285 kv_P_formOf kn_P kw_P_formOf kd_P_formOf ⟨(Nat.le_of_ble_eq_true rfl), (Nat.le_of_ble_eq_true rfl)⟩ (hF.le _) rfl hl.1 rfl (Nat.le_of_ble_eq_true rfl) d_P_expression_139 (fun H locs hW hS => ?_)
  obtain ⟨g39, h⟩ := gd_some h
  obtain ⟨g41, h⟩ := gd_some h
  obtain ⟨S40, eS40, h⟩ := lt_some h
  refine hp_r (j := r38) C hW hS j35 1 g39.2 g39.1 q_O (by decide) rfl rfl rfl (lkN C kf_P_288) (Or.inr ⟨by omega, by omega⟩) (finO1 g39.1) eS40 d_P_expression_142 (fun H locs hW hS => ?_)
  have hkS40 : S40.2.2.2 = S37.2.2.2 := by rw [eS40]; rfl
  refine ac_w hkS40 ?_
  have hT := hT.k hkS40
  have hF := hF.kL hkS40
  refine lv_aload hx hb d_P_expression_145 (lv_at hl 0 rfl) ?_
  refine lv_iconst (v := 0) hx hb d_P_expression_147 (by decide) ?_
  obtain ⟨g42, h⟩ := gd_some h
  obtain ⟨S43, eS43, h⟩ := lt_some h
  refine hp_i C hW hS j35 2 g42.2 g42.1 q_O (by decide) rfl rfl rfl (lkN C kf_P_292) eS43 d_P_expression_148 (fun H locs hW hS => ?_)
  have hkS43 : S43.2.2.2 = S40.2.2.2 := by rw [eS43]; rfl
  refine ac_w hkS43 ?_
  have hT := hT.k hkS43
  have hF := hF.kL hkS43
  refine lv_aload hx hb d_P_expression_151 (lv_at hl 0 rfl) ?_
  refine lv_iload_n hx hb d_P_expression_153 rfl (lv_at hl 2 rfl) ?_
  obtain ⟨g44, h⟩ := gd_some h
  obtain ⟨S45, eS45, h⟩ := lt_some h
  refine hp_i C hW hS j35 3 g44.2 g44.1 q_O (by decide) rfl rfl rfl (lkN C kf_P_295) eS45 d_P_expression_154 (fun H locs hW hS => ?_)
  have hkS45 : S45.2.2.2 = S43.2.2.2 := by rw [eS45]; rfl
  refine ac_w hkS45 ?_
  have hT := hT.k hkS45
  have hF := hF.kL hkS45
  refine lv_aload_n hx hb d_P_expression_157 rfl (lv_at hl 1 rfl) ?_
  refine lv_dup hx hb d_P_expression_158 rfl ?_
  refine hg_i C hW 0 6 (hW.fx 0 rfl) rfl q_P (by decide) rfl (lkF C kf_P_259) d_P_expression_159 ?_
  refine lv_iconst (v := 1) hx hb d_P_expression_162 (by decide) ?_
  refine lv_iadd hx hb d_P_expression_163 ?_
  obtain ⟨S46, eS46, h⟩ := lt_some h
  refine hp_i C hW hS 0 6 (hW.fx 0 rfl) rfl q_P (by decide) rfl rfl rfl (lkF C kf_P_259) eS46 d_P_expression_164 (fun H locs hW hS => ?_)
  have hkS46 : S46.2.2.2 = S45.2.2.2 := by rw [eS46]; rfl
  refine ac_w hkS46 ?_
  have hT := hT.k hkS46
  have hF := hF.kL hkS46
  have h := Option.some.inj h
  subst h
  exact ea_v C hT hW hS d_P_expression_167
set_option maxHeartbeats 4000000 in
set_option maxRecDepth 100000 in
theorem w_P_expression_108 {ad0 ad : Nat → Nat} {S0 : HS} (C : CB p s m args c meth b_P_expression "TwoLevelParser" 7 none D cA z ac) (n : Nat) {S' : HS} (x2 : Int32) (x4 : Int32) (y0 : Nat) (y1 : Int32) {S : HS} {H : Heap} {locs : List Loc} {ls : Array Slot} (h : f_P_expression_b108 n x2 x4 y0 y1 S = some S') (hT : AC S0 ad0 S ad) (hW : HW D cA z ac E1 ad S H) (hS : va_S (zA z) s.heap H locs) (hl : lv_has ls 7 [(0, .ref (ad 0)), (2, .int (x2)), (4, .int (x4))]) : GA p l e 8 s m args below meth c D cA z ac E1 ad0 S0 (fun _ => none) S' S H locs (F0 m 108 ls [.ref (ad y0), .int (y1), .ref (ad 5)]) := by
  obtain ⟨⟨hx, hb, hml, hown, hts⟩, hK, hr, hlo⟩ := id C
  have hF : MN S S' := m_P_expression_108 h
  unfold f_P_expression_b108 at h
  refine lv_dup hx hb d_P_expression_108 rfl ?_
  refine hx_I0 (i := y0) (As := []) (rest := [.ref (ad y0), .int (y1), .ref (ad 5)]) C hW hS (s_O_init y0) (Or.inr ⟨_, km_P_284⟩) kv_O_init kn_O kw_O_init kd_O_init rfl ⟨(Nat.le_of_ble_eq_true rfl), (Nat.le_of_ble_eq_true rfl)⟩ (hF.le _) rfl hl.1 rfl (Nat.le_of_ble_eq_true rfl) d_P_expression_109 (fun H locs hW hS => ?_)
  obtain ⟨g31, h⟩ := gd_some h
  obtain ⟨g33, h⟩ := gd_some h
  obtain ⟨S32, eS32, h⟩ := lt_some h
  refine hs_r (t := 5) (ck := 15) C hW hS 5 (hW.fx 5 rfl) rfl (by decide) rfl rfl g31 g33.2 g33.1 q_O rfl eS32 d_P_expression_112 (fun H locs hW hS => ?_)
  have hkS32 : S32.2.2.2 = S.2.2.2 := by rw [eS32]; rfl
  refine ac_w hkS32 ?_
  have hT := hT.k hkS32
  have hF := hF.kL hkS32
  exact w_P_expression_113 C n x2 x4 h hT hW hS (lv_sub hl [0, 1, 2] rfl)
set_option maxHeartbeats 4000000 in
set_option maxRecDepth 100000 in
theorem w_P_expression_83 {ad0 ad : Nat → Nat} {S0 : HS} (C : CB p s m args c meth b_P_expression "TwoLevelParser" 7 none D cA z ac) (n : Nat) {S' : HS} (x2 : Int32) (x4 : Int32) (y0 : Nat) {S : HS} {H : Heap} {locs : List Loc} {ls : Array Slot} (h : f_P_expression_b83 n x2 x4 y0 S = some S') (hT : AC S0 ad0 S ad) (hW : HW D cA z ac E1 ad S H) (hS : va_S (zA z) s.heap H locs) (hl : lv_has ls 7 [(0, .ref (ad 0)), (2, .int (x2)), (4, .int (x4))]) : GA p l e 8 s m args below meth c D cA z ac E1 ad0 S0 (fun _ => none) S' S H locs (F0 m 83 ls [.ref (ad y0)]) := by
  obtain ⟨⟨hx, hb, hml, hown, hts⟩, hK, hr, hlo⟩ := id C
  have hF : MN S S' := m_P_expression_83 h
  unfold f_P_expression_b83 at h
  refine lv_astore (lv' := [(5, .ref (ad y0)), (0, .ref (ad 0)), (2, .int (x2)), (4, .int (x4))]) hx hb d_P_expression_83 hl (by decide) rfl (fun ls hl => ?_)
  refine lv_aload_n hx hb d_P_expression_85 rfl (lv_at hl 1 rfl) ?_
  refine hg_r (j := 5) C hW 0 5 (hW.fx 0 rfl) rfl q_P (by decide) rfl (hW.fn (E := E1) (i := 0) (k := 5) rfl) (lkF C kf_P_130) d_P_expression_86 ?_
  refine lv_aload_n hx hb d_P_expression_89 rfl (lv_at hl 1 rfl) ?_
  refine hg_i C hW 0 6 (hW.fx 0 rfl) rfl q_P (by decide) rfl (lkF C kf_P_259) d_P_expression_90 ?_
  obtain ⟨g25, h⟩ := gd_some h
  refine ha_q (t := 5) (ck := 15) C hW 5 (hW.fx 5 rfl) rfl (by decide) rfl rfl g25 d_P_expression_93 ?_
  refine hj_nn (tgt := 113) C d_P_expression_94 (by decide) (fun c94 => ?_) (fun c94 => ?_)
  · have h := ite_t c94 h
    refine lv_aload_n hx hb d_P_expression_97 rfl (lv_at hl 1 rfl) ?_
    refine hg_r (j := 5) C hW 0 5 (hW.fx 0 rfl) rfl q_P (by decide) rfl (hW.fn (E := E1) (i := 0) (k := 5) rfl) (lkF C kf_P_130) d_P_expression_98 ?_
    refine lv_aload_n hx hb d_P_expression_101 rfl (lv_at hl 1 rfl) ?_
    refine hg_i C hW 0 6 (hW.fx 0 rfl) rfl q_P (by decide) rfl (lkF C kf_P_259) d_P_expression_102 ?_
    obtain ⟨i26, ei26, h⟩ := lt_some h
    obtain ⟨g27, h⟩ := gd_some h
    obtain ⟨S28, eS28, h⟩ := lt_some h
    have hX := hW
    refine hn_o (i := i26) C hW hS hT (hW.zl (hW.fx 0 rfl)) g27.1 q_O g27.2.1 g27.2.2 (fin_dyn (Or.inr g27.1)) eS28 kc_P_128 kt_O kn_O (MN.le (m_P_expression_108 h) _) d_P_expression_105 (fun ad29 H hA hT hW hS => ?_)
    have hl : lv_has ls 7 [(0, .ref (ad29 0)), (2, .int (x2)), (4, .int (x4))] := by rw [hA 0 (hX.fx 0 rfl)]; exact lv_sub hl [1, 2, 3] rfl
    rw [← hA 5 (hX.fx 5 rfl)]
    exact w_P_expression_108 C n x2 x4 i26 (gF S 0 6) h hT hW hS (lv_sub hl [0, 1, 2] rfl)
  · have h := ite_f c94 h
    exact w_P_expression_113 C n x2 x4 h hT hW hS (lv_sub hl [1, 2, 3] rfl)
set_option maxHeartbeats 4000000 in
set_option maxRecDepth 100000 in
theorem w_P_expression_56 {ad0 ad : Nat → Nat} {S0 : HS} (C : CB p s m args c meth b_P_expression "TwoLevelParser" 7 none D cA z ac) (n : Nat) {S' : HS} (x2 : Int32) (x3 : Int32) (y0 : Int32) {S : HS} {H : Heap} {locs : List Loc} {ls : Array Slot} (h : f_P_expression_b56 n x2 x3 y0 S = some S') (hT : AC S0 ad0 S ad) (hW : HW D cA z ac E1 ad S H) (hS : va_S (zA z) s.heap H locs) (hl : lv_has ls 7 [(0, .ref (ad 0)), (2, .int (x2)), (3, .int (x3))]) : GA p l e 8 s m args below meth c D cA z ac E1 ad0 S0 (fun _ => none) S' S H locs (F0 m 56 ls [.int (y0)]) := by
  obtain ⟨⟨hx, hb, hml, hown, hts⟩, hK, hr, hlo⟩ := id C
  have hF : MN S S' := m_P_expression_56 h
  unfold f_P_expression_b56 at h
  obtain ⟨v16, ev16, h⟩ := lt_some h
  refine lt_i (lv' := [(4, .int (v16)), (0, .ref (ad 0)), (2, .int (x2)), (3, .int (x3))]) C d_P_expression_56 hl (by decide) ev16 rfl (fun ls hl => ?_)
  refine lv_iload hx hb d_P_expression_58 (lv_at hl 0 rfl) ?_
  refine lv_if_ge (tgt := 68) hx hb d_P_expression_60 (by decide) (fun c60 => ?_) (fun c60 => ?_)
  · have h := ite_t c60 h
    refine lv_aload_n hx hb d_P_expression_68 rfl (lv_at hl 1 rfl) ?_
    refine hg_r (j := 1) C hW 0 0 (hW.fx 0 rfl) rfl q_P (by decide) rfl (hW.fn (E := E1) (i := 0) (k := 0) rfl) (lkF C kf_P_112) d_P_expression_69 ?_
    obtain ⟨S17, eS17, h⟩ := ob_some h
    refine hx_V (i := 1) (As := []) (rest := []) C hW hS (s_X_next n eS17) km_P_172 kv_X_next ke_X_next kn_X kw_X_next kd_X_next (hW.fx 1 rfl) rfl q_X rfl ⟨(Nat.le_of_ble_eq_true rfl), (Nat.le_of_ble_eq_true rfl)⟩ (hF.le _) rfl hl.1 rfl (Nat.le_of_ble_eq_true rfl) d_P_expression_72 (fun H locs hW hS => ?_)
    have hkS17 : S17.2.2.2 = S.2.2.2 := k_X_next eS17
    refine ac_w hkS17 ?_
    have hT := hT.k hkS17
    have hF := hF.kL hkS17
    refine lv_aload_n hx hb d_P_expression_75 rfl (lv_at hl 1 rfl) ?_
    refine lv_iload hx hb d_P_expression_76 (lv_at hl 0 rfl) ?_
    refine lv_iload_n hx hb d_P_expression_78 rfl (lv_at hl 3 rfl) ?_
    refine lv_iload_n hx hb d_P_expression_79 rfl (lv_at hl 2 rfl) ?_
    obtain ⟨r20, S19, eS19, h⟩ := ob2_some h
    have hX := hW
    refine hx_VA (i := 0) (As := [.int (v16), .int (x3), .int (x2)]) (rest := []) C hW hS hT (s_P_begin v16 x3 x2 eS19) (m_P_begin eS19) km_P_281 kv_P_begin ke_P_begin kn_P kw_P_begin kd_P_begin (hW.fx 0 rfl) rfl q_P rfl ⟨(Nat.le_of_ble_eq_true rfl), (Nat.le_of_ble_eq_true rfl)⟩ (MN.le (m_P_expression_83 h) _) rfl hl.1 rfl (Nat.le_of_ble_eq_true rfl) d_P_expression_80 (fun ad18 H locs hA hT hW hS => ?_)
    have hl : lv_has ls 7 [(4, .int (v16)), (0, .ref (ad18 0)), (2, .int (x2))] := by rw [hA 0 (hX.fx 0 rfl)]; exact lv_sub hl [0, 1, 2] rfl
    exact w_P_expression_83 C n x2 v16 r20 h hT hW hS (lv_sub hl [1, 2, 0] rfl)
  · have h := ite_f c60 h
    refine lv_aload_n hx hb d_P_expression_63 rfl (lv_at hl 1 rfl) ?_
    obtain ⟨S21, eS21, h⟩ := ob_some h
    refine hx_V (i := 0) (As := []) (rest := []) C hW hS (s_P_refuse eS21) km_P_169 kv_P_refuse ke_P_refuse kn_P kw_P_refuse kd_P_refuse (hW.fx 0 rfl) rfl q_P rfl ⟨(Nat.le_of_ble_eq_true rfl), (Nat.le_of_ble_eq_true rfl)⟩ (hF.le _) rfl hl.1 rfl (Nat.le_of_ble_eq_true rfl) d_P_expression_64 (fun H locs hW hS => ?_)
    have hkS21 : S21.2.2.2 = S.2.2.2 := k_P_refuse eS21
    refine ac_w hkS21 ?_
    have hT := hT.k hkS21
    have hF := hF.kL hkS21
    have h := Option.some.inj h
    subst h
    exact ea_v C hT hW hS d_P_expression_67
set_option maxHeartbeats 4000000 in
set_option maxRecDepth 100000 in
theorem w_P_expression_201 {ad0 ad : Nat → Nat} {S0 : HS} (C : CB p s m args c meth b_P_expression "TwoLevelParser" 7 none D cA z ac) (n : Nat) {S' : HS} {S : HS} {H : Heap} {locs : List Loc} {ls : Array Slot} (h : f_P_expression_b201 n S = some S') (hT : AC S0 ad0 S ad) (hW : HW D cA z ac E1 ad S H) (hS : va_S (zA z) s.heap H locs) (hl : lv_has ls 7 [(0, .ref (ad 0))]) : GA p l e 8 s m args below meth c D cA z ac E1 ad0 S0 (fun _ => none) S' S H locs (F0 m 201 ls []) := by
  obtain ⟨⟨hx, hb, hml, hown, hts⟩, hK, hr, hlo⟩ := id C
  have hF : MN S S' := m_P_expression_201 h
  unfold f_P_expression_b201 at h
  refine lv_aload_n hx hb d_P_expression_201 rfl (lv_at hl 0 rfl) ?_
  obtain ⟨S12, eS12, h⟩ := ob_some h
  refine hx_V (i := 0) (As := []) (rest := []) C hW hS (s_P_refuse eS12) km_P_169 kv_P_refuse ke_P_refuse kn_P kw_P_refuse kd_P_refuse (hW.fx 0 rfl) rfl q_P rfl ⟨(Nat.le_of_ble_eq_true rfl), (Nat.le_of_ble_eq_true rfl)⟩ (hF.le _) rfl hl.1 rfl (Nat.le_of_ble_eq_true rfl) d_P_expression_202 (fun H locs hW hS => ?_)
  have hkS12 : S12.2.2.2 = S.2.2.2 := k_P_refuse eS12
  refine ac_w hkS12 ?_
  have hT := hT.k hkS12
  have hF := hF.kL hkS12
  have h := Option.some.inj h
  subst h
  exact ea_v C hT hW hS d_P_expression_205
set_option maxHeartbeats 4000000 in
set_option maxRecDepth 100000 in
theorem w_P_expression_310 {ad0 ad : Nat → Nat} {S0 : HS} (C : CB p s m args c meth b_P_expression "TwoLevelParser" 7 none D cA z ac) (n : Nat) {S' : HS} (y0 : Int32) (y1 : Nat) {S : HS} {H : Heap} {locs : List Loc} {ls : Array Slot} (h : f_P_expression_b310 n y0 y1 S = some S') (hT : AC S0 ad0 S ad) (hW : HW D cA z ac E1 ad S H) (hS : va_S (zA z) s.heap H locs) (hl : lv_has ls 7 [(0, .ref (ad 0))]) : GA p l e 8 s m args below meth c D cA z ac E1 ad0 S0 (fun _ => none) S' S H locs (F0 m 310 ls [.int (y0), .ref (ad y1)]) := by
  obtain ⟨⟨hx, hb, hml, hown, hts⟩, hK, hr, hlo⟩ := id C
  have hF : MN S S' := m_P_expression_310 h
  unfold f_P_expression_b310 at h
  obtain ⟨g53, h⟩ := gd_some h
  obtain ⟨S54, eS54, h⟩ := lt_some h
  refine hp_i C hW hS y1 8 g53.2 g53.1 q_N (by decide) rfl rfl rfl (lkN C kf_P_272) eS54 d_P_expression_310 (fun H locs hW hS => ?_)
  have hkS54 : S54.2.2.2 = S.2.2.2 := by rw [eS54]; rfl
  refine ac_w hkS54 ?_
  have hT := hT.k hkS54
  have hF := hF.kL hkS54
  refine lv_aload_n hx hb d_P_expression_313 rfl (lv_at hl 0 rfl) ?_
  refine hg_r (j := 1) C hW 0 0 (hW.fx 0 rfl) rfl q_P (by decide) rfl (hW.fn (E := E1) (i := 0) (k := 0) rfl) (lkF C kf_P_112) d_P_expression_314 ?_
  obtain ⟨S55, eS55, h⟩ := ob_some h
  refine hx_V (i := 1) (As := []) (rest := []) C hW hS (s_X_next n eS55) km_P_172 kv_X_next ke_X_next kn_X kw_X_next kd_X_next (hW.fx 1 rfl) rfl q_X rfl ⟨(Nat.le_of_ble_eq_true rfl), (Nat.le_of_ble_eq_true rfl)⟩ (hF.le _) rfl hl.1 rfl (Nat.le_of_ble_eq_true rfl) d_P_expression_317 (fun H locs hW hS => ?_)
  have hkS55 : S55.2.2.2 = S54.2.2.2 := k_X_next eS55
  refine ac_w hkS55 ?_
  have hT := hT.k hkS55
  have hF := hF.kL hkS55
  have h := Option.some.inj h
  subst h
  exact ea_v C hT hW hS d_P_expression_320
set_option maxHeartbeats 4000000 in
set_option maxRecDepth 100000 in
theorem w_P_expression_291 {ad0 ad : Nat → Nat} {S0 : HS} (C : CB p s m args c meth b_P_expression "TwoLevelParser" 7 none D cA z ac) (n : Nat) {S' : HS} (x3 : Int32) (x4 : Nat) (y0 : Int64) (y1 : Nat) {S : HS} {H : Heap} {locs : List Loc} {ls : Array Slot} (h : f_P_expression_b291 n x3 x4 y0 y1 S = some S') (hT : AC S0 ad0 S ad) (hW : HW D cA z ac E1 ad S H) (hS : va_S (zA z) s.heap H locs) (hl : lv_has ls 7 [(0, .ref (ad 0)), (3, .int (x3)), (4, .ref (ad x4))]) : GA p l e 8 s m args below meth c D cA z ac E1 ad0 S0 (fun _ => none) S' S H locs (F0 m 291 ls [.long (y0), .ref (ad y1)]) := by
  obtain ⟨⟨hx, hb, hml, hown, hts⟩, hK, hr, hlo⟩ := id C
  have hF : MN S S' := m_P_expression_291 h
  unfold f_P_expression_b291 at h
  obtain ⟨g50, h⟩ := gd_some h
  obtain ⟨S51, eS51, h⟩ := lt_some h
  refine hp_l C hW hS y1 6 g50.2 g50.1 q_N (by decide) rfl rfl rfl (lkN C kf_P_266) eS51 d_P_expression_291 (fun H locs hW hS => ?_)
  have hkS51 : S51.2.2.2 = S.2.2.2 := by rw [eS51]; rfl
  refine ac_w hkS51 ?_
  have hT := hT.k hkS51
  have hF := hF.kL hkS51
  refine lv_aload hx hb d_P_expression_294 (lv_at hl 2 rfl) ?_
  refine lv_aload hx hb d_P_expression_296 (lv_at hl 2 rfl) ?_
  obtain ⟨g52, h⟩ := gd_some h
  refine hg_i C hW x4 0 g52.2 g52.1 q_N (by decide) rfl (lkN C kf_P_246) d_P_expression_298 ?_
  refine lv_iconst (v := 1) hx hb d_P_expression_301 (by decide) ?_
  refine lv_icmp_ne (tgt := 309) hx hb d_P_expression_302 (by decide) (fun c302 => ?_) (fun c302 => ?_)
  · have h := ite_f c302 h
    refine lv_iconst (v := -1) hx hb d_P_expression_309 (by decide) ?_
    exact w_P_expression_310 C n (-1 : Int32) x4 h hT hW hS (lv_sub hl [0] rfl)
  · have h := ite_t c302 h
    refine lv_iload_n hx hb d_P_expression_305 rfl (lv_at hl 1 rfl) ?_
    refine lv_goto (tgt := 310) hx hb d_P_expression_306 (by decide) ?_
    exact w_P_expression_310 C n x3 x4 h hT hW hS (lv_sub hl [0] rfl)
set_option maxHeartbeats 4000000 in
set_option maxRecDepth 100000 in
theorem w_P_expression_266 {ad0 ad : Nat → Nat} {S0 : HS} (C : CB p s m args c meth b_P_expression "TwoLevelParser" 7 none D cA z ac) (n : Nat) {S' : HS} (x3 : Int32) (x4 : Nat) (y0 : Int32) (y1 : Nat) {S : HS} {H : Heap} {locs : List Loc} {ls : Array Slot} (h : f_P_expression_b266 n x3 x4 y0 y1 S = some S') (hT : AC S0 ad0 S ad) (hW : HW D cA z ac E1 ad S H) (hS : va_S (zA z) s.heap H locs) (hl : lv_has ls 7 [(0, .ref (ad 0)), (3, .int (x3)), (4, .ref (ad x4))]) : GA p l e 8 s m args below meth c D cA z ac E1 ad0 S0 (fun _ => none) S' S H locs (F0 m 266 ls [.int (y0), .ref (ad y1)]) := by
  obtain ⟨⟨hx, hb, hml, hown, hts⟩, hK, hr, hlo⟩ := id C
  have hF : MN S S' := m_P_expression_266 h
  unfold f_P_expression_b266 at h
  obtain ⟨g47, h⟩ := gd_some h
  obtain ⟨S48, eS48, h⟩ := lt_some h
  refine hp_i C hW hS y1 10 g47.2 g47.1 q_N (by decide) rfl rfl rfl (lkN C kf_P_278) eS48 d_P_expression_266 (fun H locs hW hS => ?_)
  have hkS48 : S48.2.2.2 = S.2.2.2 := by rw [eS48]; rfl
  refine ac_w hkS48 ?_
  have hT := hT.k hkS48
  have hF := hF.kL hkS48
  refine lv_aload hx hb d_P_expression_269 (lv_at hl 2 rfl) ?_
  refine lv_aload hx hb d_P_expression_271 (lv_at hl 2 rfl) ?_
  obtain ⟨g49, h⟩ := gd_some h
  refine hg_i C hW x4 0 g49.2 g49.1 q_N (by decide) rfl (lkN C kf_P_246) d_P_expression_273 ?_
  refine lv_iconst (v := 1) hx hb d_P_expression_276 (by decide) ?_
  refine lv_icmp_ne (tgt := 290) hx hb d_P_expression_277 (by decide) (fun c277 => ?_) (fun c277 => ?_)
  · have h := ite_f c277 h
    refine lv_lconst (v := 0) hx hb d_P_expression_290 (by decide) ?_
    exact w_P_expression_291 C n x3 x4 (0 : Int64) x4 h hT hW hS (lv_sub hl [0, 1, 2] rfl)
  · have h := ite_t c277 h
    refine lv_aload_n hx hb d_P_expression_280 rfl (lv_at hl 0 rfl) ?_
    refine hg_r (j := 1) C hW 0 0 (hW.fx 0 rfl) rfl q_P (by decide) rfl (hW.fn (E := E1) (i := 0) (k := 0) rfl) (lkF C kf_P_112) d_P_expression_281 ?_
    refine hg_l C hW 1 5 (hW.fx 1 rfl) rfl q_X (by decide) rfl (lkN C kf_P_165) d_P_expression_284 ?_
    refine lv_goto (tgt := 291) hx hb d_P_expression_287 (by decide) ?_
    exact w_P_expression_291 C n x3 x4 (gL S48 1 5) x4 h hT hW hS (lv_sub hl [0, 1, 2] rfl)
set_option maxHeartbeats 4000000 in
set_option maxRecDepth 100000 in
theorem w_P_expression_243 {ad0 ad : Nat → Nat} {S0 : HS} (C : CB p s m args c meth b_P_expression "TwoLevelParser" 7 none D cA z ac) (n : Nat) {S' : HS} (x3 : Int32) (y0 : Nat) {S : HS} {H : Heap} {locs : List Loc} {ls : Array Slot} (h : f_P_expression_b243 n x3 y0 S = some S') (hT : AC S0 ad0 S ad) (hW : HW D cA z ac E1 ad S H) (hS : va_S (zA z) s.heap H locs) (hl : lv_has ls 7 [(0, .ref (ad 0)), (3, .int (x3))]) : GA p l e 8 s m args below meth c D cA z ac E1 ad0 S0 (fun _ => none) S' S H locs (F0 m 243 ls [.ref (ad y0)]) := by
  obtain ⟨⟨hx, hb, hml, hown, hts⟩, hK, hr, hlo⟩ := id C
  have hF : MN S S' := m_P_expression_243 h
  unfold f_P_expression_b243 at h
  refine lv_astore (lv' := [(4, .ref (ad y0)), (0, .ref (ad 0)), (3, .int (x3))]) hx hb d_P_expression_243 hl (by decide) rfl (fun ls hl => ?_)
  refine lv_aload hx hb d_P_expression_245 (lv_at hl 0 rfl) ?_
  refine lv_aload hx hb d_P_expression_247 (lv_at hl 0 rfl) ?_
  obtain ⟨g30, h⟩ := gd_some h
  refine hg_i C hW y0 0 g30.2 g30.1 q_N (by decide) rfl (lkN C kf_P_246) d_P_expression_249 ?_
  refine lv_if_ne (tgt := 265) hx hb d_P_expression_252 (by decide) (fun c252 => ?_) (fun c252 => ?_)
  · have h := ite_f c252 h
    refine lv_iconst (v := 0) hx hb d_P_expression_265 (by decide) ?_
    exact w_P_expression_266 C n x3 y0 (0 : Int32) y0 h hT hW hS (lv_sub hl [1, 2, 0] rfl)
  · have h := ite_t c252 h
    refine lv_aload_n hx hb d_P_expression_255 rfl (lv_at hl 1 rfl) ?_
    refine hg_r (j := 1) C hW 0 0 (hW.fx 0 rfl) rfl q_P (by decide) rfl (hW.fn (E := E1) (i := 0) (k := 0) rfl) (lkF C kf_P_112) d_P_expression_256 ?_
    refine hg_i C hW 1 6 (hW.fx 1 rfl) rfl q_X (by decide) rfl (lkN C kf_P_299) d_P_expression_259 ?_
    refine lv_goto (tgt := 266) hx hb d_P_expression_262 (by decide) ?_
    exact w_P_expression_266 C n x3 y0 (gF S 1 6) y0 h hT hW hS (lv_sub hl [1, 2, 0] rfl)
set_option maxHeartbeats 4000000 in
set_option maxRecDepth 100000 in
theorem w_P_expression_238 {ad0 ad : Nat → Nat} {S0 : HS} (C : CB p s m args c meth b_P_expression "TwoLevelParser" 7 none D cA z ac) (n : Nat) {S' : HS} (x2 : Int32) (x3 : Int32) (y0 : Int32) {S : HS} {H : Heap} {locs : List Loc} {ls : Array Slot} (h : f_P_expression_b238 n x2 x3 y0 S = some S') (hT : AC S0 ad0 S ad) (hW : HW D cA z ac E1 ad S H) (hS : va_S (zA z) s.heap H locs) (hl : lv_has ls 7 [(0, .ref (ad 0)), (2, .int (x2)), (3, .int (x3))]) : GA p l e 8 s m args below meth c D cA z ac E1 ad0 S0 (fun _ => none) S' S H locs (F0 m 238 ls [.int (y0), .ref (ad 0)]) := by
  obtain ⟨⟨hx, hb, hml, hown, hts⟩, hK, hr, hlo⟩ := id C
  have hF : MN S S' := m_P_expression_238 h
  unfold f_P_expression_b238 at h
  refine lv_iload_n hx hb d_P_expression_238 rfl (lv_at hl 2 rfl) ?_
  refine lv_iload_n hx hb d_P_expression_239 rfl (lv_at hl 1 rfl) ?_
  obtain ⟨r24, S23, eS23, h⟩ := ob2_some h
  have hX := hW
  refine hx_VA (i := 0) (As := [.int (y0), .int (x3), .int (x2)]) (rest := []) C hW hS hT (s_P_begin y0 x3 x2 eS23) (m_P_begin eS23) km_P_281 kv_P_begin ke_P_begin kn_P kw_P_begin kd_P_begin (hW.fx 0 rfl) rfl q_P rfl ⟨(Nat.le_of_ble_eq_true rfl), (Nat.le_of_ble_eq_true rfl)⟩ (MN.le (m_P_expression_243 h) _) rfl hl.1 rfl (Nat.le_of_ble_eq_true rfl) d_P_expression_240 (fun ad22 H locs hA hT hW hS => ?_)
  have hl : lv_has ls 7 [(0, .ref (ad22 0)), (3, .int (x3))] := by rw [hA 0 (hX.fx 0 rfl)]; exact lv_sub hl [0, 2] rfl
  exact w_P_expression_243 C n x3 r24 h hT hW hS (lv_sub hl [0, 1] rfl)
set_option maxHeartbeats 4000000 in
set_option maxRecDepth 100000 in
theorem w_P_expression_206 {ad0 ad : Nat → Nat} {S0 : HS} (C : CB p s m args c meth b_P_expression "TwoLevelParser" 7 none D cA z ac) (n : Nat) {S' : HS} (x2 : Int32) (x3 : Int32) {S : HS} {H : Heap} {locs : List Loc} {ls : Array Slot} (h : f_P_expression_b206 n x2 x3 S = some S') (hT : AC S0 ad0 S ad) (hW : HW D cA z ac E1 ad S H) (hS : va_S (zA z) s.heap H locs) (hl : lv_has ls 7 [(0, .ref (ad 0)), (2, .int (x2)), (3, .int (x3))]) : GA p l e 8 s m args below meth c D cA z ac E1 ad0 S0 (fun _ => none) S' S H locs (F0 m 206 ls []) := by
  obtain ⟨⟨hx, hb, hml, hown, hts⟩, hK, hr, hlo⟩ := id C
  have hF : MN S S' := m_P_expression_206 h
  unfold f_P_expression_b206 at h
  refine lv_aload_n hx hb d_P_expression_206 rfl (lv_at hl 0 rfl) ?_
  refine lv_aload_n hx hb d_P_expression_207 rfl (lv_at hl 0 rfl) ?_
  refine hg_r (j := 1) C hW 0 0 (hW.fx 0 rfl) rfl q_P (by decide) rfl (hW.fn (E := E1) (i := 0) (k := 0) rfl) (lkF C kf_P_112) d_P_expression_208 ?_
  obtain ⟨j13, ej13, h⟩ := ob_some h
  refine hg_r (j := j13) C hW 1 3 (hW.fx 1 rfl) rfl q_X (by decide) rfl ej13 (lkN C kf_P_149) d_P_expression_211 ?_
  refine hc_so (i := 3) C hW hS (by decide) kf_P_296 d_P_expression_214 ?_
  obtain ⟨g14, h⟩ := gd_some h
  refine hj_ne (tgt := 224) C hW g14.1 g14.2 d_P_expression_217 (by decide) (fun c217 => ?_) (fun c217 => ?_)
  · have h := ite_t c217 h
    refine lv_iconst (v := 0) hx hb d_P_expression_220 (by decide) ?_
    refine lv_goto (tgt := 238) hx hb d_P_expression_221 (by decide) ?_
    exact w_P_expression_238 C n x2 x3 (0 : Int32) h hT hW hS (lv_sub hl [0, 1, 2] rfl)
  · have h := ite_f c217 h
    refine lv_aload_n hx hb d_P_expression_224 rfl (lv_at hl 0 rfl) ?_
    refine hc_s (i := 2) C hW rfl (by decide) rfl rfl d_P_expression_225 ?_
    obtain ⟨r15, er15, h⟩ := ob_some h
    refine hx_V (i := 0) (As := [.ref (ad 302)]) (rest := [.ref (ad 0)]) C hW hS (s_P_isWord n 302 er15) km_P_197 kv_P_isWord ke_P_isWord kn_P kw_P_isWord kd_P_isWord (hW.fx 0 rfl) rfl q_P rfl ⟨(Nat.le_of_ble_eq_true rfl), (Nat.le_of_ble_eq_true rfl)⟩ (hF.le _) rfl hl.1 rfl (Nat.le_of_ble_eq_true rfl) d_P_expression_227 (fun H locs hW hS => ?_)
    refine lv_if_eq (tgt := 237) hx hb d_P_expression_230 (by decide) (fun c230 => ?_) (fun c230 => ?_)
    · have h := ite_t c230 h
      refine lv_iconst (v := 1) hx hb d_P_expression_237 (by decide) ?_
      exact w_P_expression_238 C n x2 x3 (1 : Int32) h hT hW hS (lv_sub hl [0, 1, 2] rfl)
    · have h := ite_f c230 h
      refine lv_iconst (v := 2) hx hb d_P_expression_233 (by decide) ?_
      refine lv_goto (tgt := 238) hx hb d_P_expression_234 (by decide) ?_
      exact w_P_expression_238 C n x2 x3 (2 : Int32) h hT hW hS (lv_sub hl [0, 1, 2] rfl)
set_option maxHeartbeats 4000000 in
set_option maxRecDepth 100000 in
theorem s_P_expression (n : Nat) (x1 : Int32) (x2 : Int32) {ad : Nat → Nat} {S : HS} {S' : HS} (h : f_P_expression n x1 x2 S = some S') : Met l y_P_expression (.code y_P_expression b_P_expression 7 none :: lw_g) (rmD 8 (gC S' - gC S) (gN S' - gN S)) (PcH D cA z ac E1 ad [.ref (ad 0), .int (x1), .int (x2)] S) (QA D cA z ac E1 ad S (fun _ => none) S') (gC S' - gC S) (gN S' - gN S) (zA z) := by
  refine Met.ofHA (own := "TwoLevelParser") (by decide) rfl (Nat.le_of_ble_eq_true rfl) ?_
  intro p e s m args below meth c H ls C hnm hW hS hl
  have hl : lv_has ls 7 [(0, .ref (ad 0)), (1, .int (x1)), (2, .int (x2))] := hl
  obtain ⟨⟨hx, hb, hml, hown, hts⟩, hK, hr, hlo⟩ := id C
  have hF : MN S S' := m_P_expression h
  have hT : AC S ad S ad := AC.rf
  unfold f_P_expression at h
  refine lv_aload_n hx hb d_P_expression_0 rfl (lv_at hl 0 rfl) ?_
  refine hg_r (j := 1) C hW 0 0 (hW.fx 0 rfl) rfl q_P (by decide) rfl (hW.fn (E := E1) (i := 0) (k := 0) rfl) (lkF C kf_P_112) d_P_expression_1 ?_
  refine hg_i C hW 1 4 (hW.fx 1 rfl) rfl q_X (by decide) rfl (lkN C kf_P_161) d_P_expression_4 ?_
  obtain ⟨v1, ev1, h⟩ := lt_some h
  refine lt_i_n (lv' := [(3, .int (v1)), (0, .ref (ad 0)), (1, .int (x1)), (2, .int (x2))]) C d_P_expression_7 rfl hl (by decide) ev1 rfl (fun ls hl => ?_)
  refine lv_aload_n hx hb d_P_expression_8 rfl (lv_at hl 1 rfl) ?_
  refine hg_r (j := 1) C hW 0 0 (hW.fx 0 rfl) rfl q_P (by decide) rfl (hW.fn (E := E1) (i := 0) (k := 0) rfl) (lkF C kf_P_112) d_P_expression_9 ?_
  obtain ⟨j2, ej2, h⟩ := ob_some h
  refine hg_r (j := j2) C hW 1 3 (hW.fx 1 rfl) rfl q_X (by decide) rfl ej2 (lkN C kf_P_149) d_P_expression_12 ?_
  refine hc_so (i := 0) C hW hS (by decide) kf_P_188 d_P_expression_15 ?_
  obtain ⟨g3, h⟩ := gd_some h
  refine hj_ne (tgt := 168) C hW g3.1 g3.2 d_P_expression_18 (by decide) (fun c18 => ?_) (fun c18 => ?_)
  · have h := ite_t c18 h
    refine lv_aload_n hx hb d_P_expression_21 rfl (lv_at hl 1 rfl) ?_
    refine hg_r (j := 1) C hW 0 0 (hW.fx 0 rfl) rfl q_P (by decide) rfl (hW.fn (E := E1) (i := 0) (k := 0) rfl) (lkF C kf_P_112) d_P_expression_22 ?_
    obtain ⟨S8, eS8, h⟩ := ob_some h
    refine hx_V (i := 1) (As := []) (rest := []) C hW hS (s_X_next n eS8) km_P_172 kv_X_next ke_X_next kn_X kw_X_next kd_X_next (hW.fx 1 rfl) rfl q_X rfl ⟨(Nat.le_of_ble_eq_true rfl), (Nat.le_of_ble_eq_true rfl)⟩ (hF.le _) rfl hl.1 rfl (Nat.le_of_ble_eq_true rfl) d_P_expression_25 (fun H locs hW hS => ?_)
    have hkS8 : S8.2.2.2 = S.2.2.2 := k_X_next eS8
    refine ac_w hkS8 ?_
    have hT := hT.k hkS8
    have hF := hF.kL hkS8
    refine lv_aload_n hx hb d_P_expression_28 rfl (lv_at hl 1 rfl) ?_
    refine hg_r (j := 1) C hW 0 0 (hW.fx 0 rfl) rfl q_P (by decide) rfl (hW.fn (E := E1) (i := 0) (k := 0) rfl) (lkF C kf_P_112) d_P_expression_29 ?_
    obtain ⟨j9, ej9, h⟩ := ob_some h
    refine hg_r (j := j9) C hW 1 3 (hW.fx 1 rfl) rfl q_X (by decide) rfl ej9 (lkN C kf_P_149) d_P_expression_32 ?_
    refine hc_so (i := 2) C hW hS (by decide) kf_P_162 d_P_expression_35 ?_
    obtain ⟨g10, h⟩ := gd_some h
    refine hj_ne (tgt := 55) C hW g10.1 g10.2 d_P_expression_38 (by decide) (fun c38 => ?_) (fun c38 => ?_)
    · have h := ite_t c38 h
      refine lv_aload_n hx hb d_P_expression_41 rfl (lv_at hl 1 rfl) ?_
      refine hg_r (j := 1) C hW 0 0 (hW.fx 0 rfl) rfl q_P (by decide) rfl (hW.fn (E := E1) (i := 0) (k := 0) rfl) (lkF C kf_P_112) d_P_expression_42 ?_
      refine hg_l C hW 1 5 (hW.fx 1 rfl) rfl q_X (by decide) rfl (lkN C kf_P_165) d_P_expression_45 ?_
      refine lv_iload_n hx hb d_P_expression_48 rfl (lv_at hl 2 rfl) ?_
      obtain ⟨r11, er11, h⟩ := ob_some h
      refine hx_S (As := [.long ((gL S8 1 5)), .int (x1)]) (rest := []) C hW hS (s_P_kindOf n (gL S8 1 5) x1 er11) km_P_99 kv_P_kindOf kn_P kw_P_kindOf kd_P_kindOf ⟨(Nat.le_of_ble_eq_true rfl), (Nat.le_of_ble_eq_true rfl)⟩ (hF.le _) rfl hl.1 rfl (Nat.le_of_ble_eq_true rfl) d_P_expression_49 (fun H locs hW hS => ?_)
      refine lv_goto (tgt := 56) hx hb d_P_expression_52 (by decide) ?_
      exact w_P_expression_56 C n x2 v1 r11 h hT hW hS (lv_sub hl [1, 3, 0] rfl)
    · have h := ite_f c38 h
      refine lv_iconst (v := -1) hx hb d_P_expression_55 (by decide) ?_
      exact w_P_expression_56 C n x2 v1 (-1 : Int32) h hT hW hS (lv_sub hl [1, 3, 0] rfl)
  · have h := ite_f c18 h
    refine lv_iload_n hx hb d_P_expression_168 rfl (lv_at hl 2 rfl) ?_
    refine lv_if_eq (tgt := 201) hx hb d_P_expression_169 (by decide) (fun c169 => ?_) (fun c169 => ?_)
    · have h := ite_t c169 h
      exact w_P_expression_201 C n h hT hW hS (lv_sub hl [1] rfl)
    · have h := ite_f c169 h
      refine lv_aload_n hx hb d_P_expression_172 rfl (lv_at hl 1 rfl) ?_
      refine hg_r (j := 1) C hW 0 0 (hW.fx 0 rfl) rfl q_P (by decide) rfl (hW.fn (E := E1) (i := 0) (k := 0) rfl) (lkF C kf_P_112) d_P_expression_173 ?_
      obtain ⟨j4, ej4, h⟩ := ob_some h
      refine hg_r (j := j4) C hW 1 3 (hW.fx 1 rfl) rfl q_X (by decide) rfl ej4 (lkN C kf_P_149) d_P_expression_176 ?_
      refine hc_so (i := 3) C hW hS (by decide) kf_P_296 d_P_expression_179 ?_
      obtain ⟨g5, h⟩ := gd_some h
      refine hj_eq (tgt := 206) C hW g5.1 g5.2 d_P_expression_182 (by decide) (fun c182 => ?_) (fun c182 => ?_)
      · have h := ite_t c182 h
        exact w_P_expression_206 C n x2 v1 h hT hW hS (lv_sub hl [1, 3, 0] rfl)
      · have h := ite_f c182 h
        refine lv_aload_n hx hb d_P_expression_185 rfl (lv_at hl 1 rfl) ?_
        refine hc_s (i := 2) C hW rfl (by decide) rfl rfl d_P_expression_186 ?_
        obtain ⟨r6, er6, h⟩ := ob_some h
        refine hx_V (i := 0) (As := [.ref (ad 302)]) (rest := []) C hW hS (s_P_isWord n 302 er6) km_P_197 kv_P_isWord ke_P_isWord kn_P kw_P_isWord kd_P_isWord (hW.fx 0 rfl) rfl q_P rfl ⟨(Nat.le_of_ble_eq_true rfl), (Nat.le_of_ble_eq_true rfl)⟩ (hF.le _) rfl hl.1 rfl (Nat.le_of_ble_eq_true rfl) d_P_expression_188 (fun H locs hW hS => ?_)
        refine lv_if_ne (tgt := 206) hx hb d_P_expression_191 (by decide) (fun c191 => ?_) (fun c191 => ?_)
        · have h := ite_f c191 h
          exact w_P_expression_206 C n x2 v1 h hT hW hS (lv_sub hl [1, 3, 0] rfl)
        · have h := ite_t c191 h
          refine lv_aload_n hx hb d_P_expression_194 rfl (lv_at hl 1 rfl) ?_
          obtain ⟨r7, er7, h⟩ := ob_some h
          refine hx_V (i := 0) (As := []) (rest := []) C hW hS (s_P_isName n er7) km_P_209 kv_P_isName ke_P_isName kn_P kw_P_isName kd_P_isName (hW.fx 0 rfl) rfl q_P rfl ⟨(Nat.le_of_ble_eq_true rfl), (Nat.le_of_ble_eq_true rfl)⟩ (hF.le _) rfl hl.1 rfl (Nat.le_of_ble_eq_true rfl) d_P_expression_195 (fun H locs hW hS => ?_)
          refine lv_if_ne (tgt := 206) hx hb d_P_expression_198 (by decide) (fun c198 => ?_) (fun c198 => ?_)
          · have h := ite_f c198 h
            exact w_P_expression_206 C n x2 v1 h hT hW hS (lv_sub hl [1, 3, 0] rfl)
          · have h := ite_t c198 h
            exact w_P_expression_201 C n h hT hW hS (lv_sub hl [1] rfl)
end WA
def f_P_step_b40 (n : Nat) (S : HS) : Option HS :=
  some S
def f_P_step_b161 (n : Nat) (S : HS) : Option HS :=
  some S
def f_P_step_b158 (n : Nat) (y0 : Int32) (y1 : Int32) (S : HS) : Option HS :=
  ob (f_P_expression n y1 y0 S) fun S28 =>
  f_P_step_b161 n S28
def f_P_step_b132 (n : Nat) (x1 : Nat) (y0 : Int32) (S : HS) : Option HS :=
  ob (f_P_isInner x1 S) fun r20 =>
  (if r20 = 0 then
  gd (kd x1 = 4 ∧ gD S x1 = true) <|
  gd (inR (gF S x1 0) 4200) <|
  ob (gX S 3 (gF S x1 0).toNatClampNeg) fun j23 =>
  gd (kd j23 = 3 ∧ gD S j23 = true) <|
  f_P_step_b158 n (gF S j23 5) y0 S
  else
  gd (kd x1 = 4 ∧ gD S x1 = true) <|
  f_P_step_b158 n (gF S x1 3) y0 S)
def f_P_step_b120 (n : Nat) (x1 : Nat) (x2 : Int32) (S : HS) : Option HS :=
  (if x2 = (101 : Int32) then
  f_P_step_b132 n x1 (1 : Int32) S
  else
  f_P_step_b132 n x1 (0 : Int32) S)
def f_P_step_b177 (n : Nat) (y0 : Int32) (y1 : Nat) (S : HS) : Option HS :=
  ob (f_P_variable n y1 y0 S) fun S26 =>
  some S26
def f_P_step_b164 (n : Nat) (x1 : Nat) (x2 : Int32) (S : HS) : Option HS :=
  (if x2 = (121 : Int32) then
  f_P_step_b177 n (1 : Int32) x1 S
  else
  f_P_step_b177 n (0 : Int32) x1 S)
def f_P_step_b41 (n : Nat) (x1 : Nat) (x2 : Int32) (S : HS) : Option HS :=
  gd (kd x1 = 4 ∧ gD S x1 = true) <|
  gd (kd x1 = 4 ∧ gD S x1 = true) <|
  lt (sF S x1 2 ((gF S x1 2) + (1 : Int32))) fun S13 =>
  (if x2 = (40 : Int32) then
  ob (f_P_pass n 500 S13) fun S14 =>
  some S14
  else
  (if x2 = (41 : Int32) then
  ob (f_P_close n x1 S13) fun S15 =>
  some S15
  else
  (if x2 = (99 : Int32) then
  f_P_step_b120 n x1 x2 S13
  else
  (if x2 = (101 : Int32) then
  f_P_step_b120 n x1 x2 S13
  else
  (if x2 = (102 : Int32) then
  gd (kd x1 = 4 ∧ gD S13 x1 = true) <|
  gd (inR (gF S13 x1 0) 4200) <|
  ob (gX S13 3 (gF S13 x1 0).toNatClampNeg) fun j18 =>
  ob (f_P_function n j18 S13) fun S19 =>
  some S19
  else
  (if x2 = (120 : Int32) then
  f_P_step_b164 n x1 x2 S13
  else
  (if x2 = (121 : Int32) then
  f_P_step_b164 n x1 x2 S13
  else
  some S13)))))))
def f_P_step (n : Nat) (x1 : Nat) (S : HS) : Option HS :=
  gd (kd x1 = 4 ∧ gD S x1 = true) <|
  ob (gX S x1 1) fun j2 =>
  gd (kd x1 = 4 ∧ gD S x1 = true) <|
  ob (f_Js_charAt j2 (gF S x1 2)) fun r4 =>
  lt r4 fun v5 =>
  (if v5 = (42 : Int32) then
  ob (gX S 1 3) fun j6 =>
  gd (isSo j6 ∧ isSo 501) (if j6 = 501 then
  f_P_step_b41 n x1 v5 S
  else
  gd (kd x1 = 4 ∧ gD S x1 = true) <|
  ob (f_P_expression n (1 : Int32) (gF S x1 3) S) fun S10 =>
  f_P_step_b40 n S10)
  else
  f_P_step_b41 n x1 v5 S)
set_option maxHeartbeats 4000000 in
set_option maxRecDepth 100000 in
theorem m_P_step_40 {n : Nat} {S' : HS} {S : HS} (h : f_P_step_b40 n S = some S') : MN S S' := by
  unfold f_P_step_b40 at h
  have hm : MN S S := MN.rf
  have h := Option.some.inj h
  subst h
  exact hm
set_option maxHeartbeats 4000000 in
set_option maxRecDepth 100000 in
theorem m_P_step_161 {n : Nat} {S' : HS} {S : HS} (h : f_P_step_b161 n S = some S') : MN S S' := by
  unfold f_P_step_b161 at h
  have hm : MN S S := MN.rf
  have h := Option.some.inj h
  subst h
  exact hm
set_option maxHeartbeats 4000000 in
set_option maxRecDepth 100000 in
theorem m_P_step_158 {n : Nat} {S' : HS} {y0 : Int32} {y1 : Int32} {S : HS} (h : f_P_step_b158 n y0 y1 S = some S') : MN S S' := by
  unfold f_P_step_b158 at h
  have hm : MN S S := MN.rf
  obtain ⟨S28, eS28, h⟩ := ob_some h
  have hm := hm.tr (m_P_expression eS28)
  exact hm.tr (m_P_step_161 h)
set_option maxHeartbeats 4000000 in
set_option maxRecDepth 100000 in
theorem m_P_step_132 {n : Nat} {S' : HS} {x1 : Nat} {y0 : Int32} {S : HS} (h : f_P_step_b132 n x1 y0 S = some S') : MN S S' := by
  unfold f_P_step_b132 at h
  have hm : MN S S := MN.rf
  obtain ⟨r20, er20, h⟩ := ob_some h
  rcases ite_or h with ⟨c136, h⟩ | ⟨c136, h⟩
  · obtain ⟨g21, h⟩ := gd_some h
    obtain ⟨g22, h⟩ := gd_some h
    obtain ⟨j23, ej23, h⟩ := ob_some h
    obtain ⟨g24, h⟩ := gd_some h
    exact hm.tr (m_P_step_158 h)
  · obtain ⟨g25, h⟩ := gd_some h
    exact hm.tr (m_P_step_158 h)
set_option maxHeartbeats 4000000 in
set_option maxRecDepth 100000 in
theorem m_P_step_120 {n : Nat} {S' : HS} {x1 : Nat} {x2 : Int32} {S : HS} (h : f_P_step_b120 n x1 x2 S = some S') : MN S S' := by
  unfold f_P_step_b120 at h
  have hm : MN S S := MN.rf
  rcases ite_or h with ⟨c124, h⟩ | ⟨c124, h⟩
  · exact hm.tr (m_P_step_132 h)
  · exact hm.tr (m_P_step_132 h)
set_option maxHeartbeats 4000000 in
set_option maxRecDepth 100000 in
theorem m_P_step_177 {n : Nat} {S' : HS} {y0 : Int32} {y1 : Nat} {S : HS} (h : f_P_step_b177 n y0 y1 S = some S') : MN S S' := by
  unfold f_P_step_b177 at h
  have hm : MN S S := MN.rf
  obtain ⟨S26, eS26, h⟩ := ob_some h
  have hm := hm.kR (show S26.2.2.2 = S.2.2.2 from k_P_variable eS26)
  have h := Option.some.inj h
  subst h
  exact hm
set_option maxHeartbeats 4000000 in
set_option maxRecDepth 100000 in
theorem m_P_step_164 {n : Nat} {S' : HS} {x1 : Nat} {x2 : Int32} {S : HS} (h : f_P_step_b164 n x1 x2 S = some S') : MN S S' := by
  unfold f_P_step_b164 at h
  have hm : MN S S := MN.rf
  rcases ite_or h with ⟨c169, h⟩ | ⟨c169, h⟩
  · exact hm.tr (m_P_step_177 h)
  · exact hm.tr (m_P_step_177 h)
set_option maxHeartbeats 4000000 in
set_option maxRecDepth 100000 in
theorem m_P_step_41 {n : Nat} {S' : HS} {x1 : Nat} {x2 : Int32} {S : HS} (h : f_P_step_b41 n x1 x2 S = some S') : MN S S' := by
  unfold f_P_step_b41 at h
  have hm : MN S S := MN.rf
  obtain ⟨g11, h⟩ := gd_some h
  obtain ⟨g12, h⟩ := gd_some h
  obtain ⟨S13, eS13, h⟩ := lt_some h
  have hm := hm.kR (show S13.2.2.2 = S.2.2.2 from by rw [eS13]; rfl)
  rcases ite_or h with ⟨c52_40, h⟩ | ⟨c52_40, h⟩
  · obtain ⟨S14, eS14, h⟩ := ob_some h
    have hm := hm.kR (show S14.2.2.2 = S13.2.2.2 from k_P_pass eS14)
    have h := Option.some.inj h
    subst h
    exact hm
  · skip
    rcases ite_or h with ⟨c52_41, h⟩ | ⟨c52_41, h⟩
    · obtain ⟨S15, eS15, h⟩ := ob_some h
      have hm := hm.kR (show S15.2.2.2 = S13.2.2.2 from k_P_close eS15)
      have h := Option.some.inj h
      subst h
      exact hm
    · skip
      rcases ite_or h with ⟨c52_99, h⟩ | ⟨c52_99, h⟩
      · exact hm.tr (m_P_step_120 h)
      · skip
        rcases ite_or h with ⟨c52_101, h⟩ | ⟨c52_101, h⟩
        · exact hm.tr (m_P_step_120 h)
        · skip
          rcases ite_or h with ⟨c52_102, h⟩ | ⟨c52_102, h⟩
          · obtain ⟨g16, h⟩ := gd_some h
            obtain ⟨g17, h⟩ := gd_some h
            obtain ⟨j18, ej18, h⟩ := ob_some h
            obtain ⟨S19, eS19, h⟩ := ob_some h
            have hm := hm.kR (show S19.2.2.2 = S13.2.2.2 from k_P_function eS19)
            have h := Option.some.inj h
            subst h
            exact hm
          · skip
            rcases ite_or h with ⟨c52_120, h⟩ | ⟨c52_120, h⟩
            · exact hm.tr (m_P_step_164 h)
            · skip
              rcases ite_or h with ⟨c52_121, h⟩ | ⟨c52_121, h⟩
              · exact hm.tr (m_P_step_164 h)
              · skip
                have h := Option.some.inj h
                subst h
                exact hm
set_option maxHeartbeats 4000000 in
set_option maxRecDepth 100000 in
theorem m_P_step {n : Nat} {x1 : Nat} {S : HS} {S' : HS} (h : f_P_step n x1 S = some S') : MN S S' := by
  unfold f_P_step at h
  have hm : MN S S := MN.rf
  obtain ⟨g1, h⟩ := gd_some h
  obtain ⟨j2, ej2, h⟩ := ob_some h
  obtain ⟨g3, h⟩ := gd_some h
  obtain ⟨r4, er4, h⟩ := ob_some h
  obtain ⟨v5, ev5, h⟩ := lt_some h
  rcases ite_or h with ⟨c15, h⟩ | ⟨c15, h⟩
  · obtain ⟨j6, ej6, h⟩ := ob_some h
    obtain ⟨g7, h⟩ := gd_some h
    rcases ite_or h with ⟨c28, h⟩ | ⟨c28, h⟩
    · exact hm.tr (m_P_step_41 h)
    · obtain ⟨g8, h⟩ := gd_some h
      obtain ⟨S10, eS10, h⟩ := ob_some h
      have hm := hm.tr (m_P_expression eS10)
      exact hm.tr (m_P_step_40 h)
  · exact hm.tr (m_P_step_41 h)
section WA
variable {p : Program} {l : Launch} {e : Env} {s : State} {m : MethodId} {args : Array Value} {below : List Frame} {meth : Method} {c : Code} {D : va_G} {cA : Nat → ClassId} {z : Nat} {ac : Nat → Nat}
set_option maxHeartbeats 4000000 in
set_option maxRecDepth 100000 in
theorem w_P_step_40 {ad0 ad : Nat → Nat} {S0 : HS} (C : CB p s m args c meth b_P_step "TwoLevelParser" 3 none D cA z ac) (n : Nat) {S' : HS} {S : HS} {H : Heap} {locs : List Loc} {ls : Array Slot} (h : f_P_step_b40 n S = some S') (hT : AC S0 ad0 S ad) (hW : HW D cA z ac E1 ad S H) (hS : va_S (zA z) s.heap H locs) (hl : lv_has ls 3 []) : GA p l e 9 s m args below meth c D cA z ac E1 ad0 S0 (fun _ => none) S' S H locs (F0 m 40 ls []) := by
  obtain ⟨⟨hx, hb, hml, hown, hts⟩, hK, hr, hlo⟩ := id C
  have hF : MN S S' := m_P_step_40 h
  unfold f_P_step_b40 at h
  have h := Option.some.inj h
  subst h
  exact ea_v C hT hW hS d_P_step_40
set_option maxHeartbeats 4000000 in
set_option maxRecDepth 100000 in
theorem w_P_step_161 {ad0 ad : Nat → Nat} {S0 : HS} (C : CB p s m args c meth b_P_step "TwoLevelParser" 3 none D cA z ac) (n : Nat) {S' : HS} {S : HS} {H : Heap} {locs : List Loc} {ls : Array Slot} (h : f_P_step_b161 n S = some S') (hT : AC S0 ad0 S ad) (hW : HW D cA z ac E1 ad S H) (hS : va_S (zA z) s.heap H locs) (hl : lv_has ls 3 []) : GA p l e 9 s m args below meth c D cA z ac E1 ad0 S0 (fun _ => none) S' S H locs (F0 m 161 ls []) := by
  obtain ⟨⟨hx, hb, hml, hown, hts⟩, hK, hr, hlo⟩ := id C
  have hF : MN S S' := m_P_step_161 h
  unfold f_P_step_b161 at h
  refine lv_goto (tgt := 217) hx hb d_P_step_161 (by decide) ?_
  have h := Option.some.inj h
  subst h
  exact ea_v C hT hW hS d_P_step_217
set_option maxHeartbeats 4000000 in
set_option maxRecDepth 100000 in
theorem w_P_step_158 {ad0 ad : Nat → Nat} {S0 : HS} (C : CB p s m args c meth b_P_step "TwoLevelParser" 3 none D cA z ac) (n : Nat) {S' : HS} (y0 : Int32) (y1 : Int32) {S : HS} {H : Heap} {locs : List Loc} {ls : Array Slot} (h : f_P_step_b158 n y0 y1 S = some S') (hT : AC S0 ad0 S ad) (hW : HW D cA z ac E1 ad S H) (hS : va_S (zA z) s.heap H locs) (hl : lv_has ls 3 []) : GA p l e 9 s m args below meth c D cA z ac E1 ad0 S0 (fun _ => none) S' S H locs (F0 m 158 ls [.int (y0), .int (y1), .ref (ad 0)]) := by
  obtain ⟨⟨hx, hb, hml, hown, hts⟩, hK, hr, hlo⟩ := id C
  have hF : MN S S' := m_P_step_158 h
  unfold f_P_step_b158 at h
  obtain ⟨S28, eS28, h⟩ := ob_some h
  have hX := hW
  refine hx_VA (i := 0) (As := [.int (y1), .int (y0)]) (rest := []) C hW hS hT (s_P_expression n y1 y0 eS28) (m_P_expression eS28) km_P_300 kv_P_expression ke_P_expression kn_P kw_P_expression kd_P_expression (hW.fx 0 rfl) rfl q_P rfl ⟨(Nat.le_of_ble_eq_true rfl), (Nat.le_of_ble_eq_true rfl)⟩ (MN.le (m_P_step_161 h) _) rfl hl.1 rfl (Nat.le_of_ble_eq_true rfl) d_P_step_158 (fun ad27 H locs hA hT hW hS => ?_)
  have hl : lv_has ls 3 [] := by exact lv_sub hl [] rfl
  exact w_P_step_161 C n h hT hW hS (lv_sub hl [] rfl)
set_option maxHeartbeats 4000000 in
set_option maxRecDepth 100000 in
theorem w_P_step_132 {ad0 ad : Nat → Nat} {S0 : HS} (C : CB p s m args c meth b_P_step "TwoLevelParser" 3 none D cA z ac) (n : Nat) {S' : HS} (x1 : Nat) (y0 : Int32) {S : HS} {H : Heap} {locs : List Loc} {ls : Array Slot} (h : f_P_step_b132 n x1 y0 S = some S') (hT : AC S0 ad0 S ad) (hW : HW D cA z ac E1 ad S H) (hS : va_S (zA z) s.heap H locs) (hl : lv_has ls 3 [(0, .ref (ad 0)), (1, .ref (ad x1))]) : GA p l e 9 s m args below meth c D cA z ac E1 ad0 S0 (fun _ => none) S' S H locs (F0 m 132 ls [.int (y0), .ref (ad 0)]) := by
  obtain ⟨⟨hx, hb, hml, hown, hts⟩, hK, hr, hlo⟩ := id C
  have hF : MN S S' := m_P_step_132 h
  unfold f_P_step_b132 at h
  refine lv_aload_n hx hb d_P_step_132 rfl (lv_at hl 1 rfl) ?_
  obtain ⟨r20, er20, h⟩ := ob_some h
  refine hx_S (As := [.ref (ad x1)]) (rest := [.int (y0), .ref (ad 0)]) C hW hS (s_P_isInner x1 er20) km_P_307 kv_P_isInner kn_P kw_P_isInner kd_P_isInner ⟨(Nat.le_of_ble_eq_true rfl), (Nat.le_of_ble_eq_true rfl)⟩ (hF.le _) rfl hl.1 rfl (Nat.le_of_ble_eq_true rfl) d_P_step_133 (fun H locs hW hS => ?_)
  refine lv_if_eq (tgt := 146) hx hb d_P_step_136 (by decide) (fun c136 => ?_) (fun c136 => ?_)
  · have h := ite_t c136 h
    refine lv_aload_n hx hb d_P_step_146 rfl (lv_at hl 0 rfl) ?_
    refine hg_r (j := 3) C hW 0 1 (hW.fx 0 rfl) rfl q_P (by decide) rfl (hW.fn (E := E1) (i := 0) (k := 1) rfl) (lkF C kf_P_118) d_P_step_147 ?_
    refine lv_aload_n hx hb d_P_step_150 rfl (lv_at hl 1 rfl) ?_
    obtain ⟨g21, h⟩ := gd_some h
    refine hg_i C hW x1 0 g21.2 g21.1 q_O (by decide) rfl (lkN C kf_P_262) d_P_step_151 ?_
    obtain ⟨g22, h⟩ := gd_some h
    obtain ⟨j23, ej23, h⟩ := ob_some h
    refine ha_r (t := 3) (ck := 13) (j := j23) C hW 3 (hW.fx 3 rfl) rfl (by decide) rfl rfl g22 ej23 d_P_step_154 ?_
    obtain ⟨g24, h⟩ := gd_some h
    refine hg_i C hW j23 5 g24.2 g24.1 q_N (by decide) rfl (lkN C kf_P_256) d_P_step_155 ?_
    exact w_P_step_158 C n (gF S j23 5) y0 h hT hW hS (lv_sub hl [] rfl)
  · have h := ite_f c136 h
    refine lv_aload_n hx hb d_P_step_139 rfl (lv_at hl 1 rfl) ?_
    obtain ⟨g25, h⟩ := gd_some h
    refine hg_i C hW x1 3 g25.2 g25.1 q_O (by decide) rfl (lkN C kf_P_295) d_P_step_140 ?_
    refine lv_goto (tgt := 158) hx hb d_P_step_143 (by decide) ?_
    exact w_P_step_158 C n (gF S x1 3) y0 h hT hW hS (lv_sub hl [] rfl)
set_option maxHeartbeats 4000000 in
set_option maxRecDepth 100000 in
theorem w_P_step_120 {ad0 ad : Nat → Nat} {S0 : HS} (C : CB p s m args c meth b_P_step "TwoLevelParser" 3 none D cA z ac) (n : Nat) {S' : HS} (x1 : Nat) (x2 : Int32) {S : HS} {H : Heap} {locs : List Loc} {ls : Array Slot} (h : f_P_step_b120 n x1 x2 S = some S') (hT : AC S0 ad0 S ad) (hW : HW D cA z ac E1 ad S H) (hS : va_S (zA z) s.heap H locs) (hl : lv_has ls 3 [(0, .ref (ad 0)), (1, .ref (ad x1)), (2, .int (x2))]) : GA p l e 9 s m args below meth c D cA z ac E1 ad0 S0 (fun _ => none) S' S H locs (F0 m 120 ls []) := by
  obtain ⟨⟨hx, hb, hml, hown, hts⟩, hK, hr, hlo⟩ := id C
  have hF : MN S S' := m_P_step_120 h
  unfold f_P_step_b120 at h
  refine lv_aload_n hx hb d_P_step_120 rfl (lv_at hl 0 rfl) ?_
  refine lv_iload_n hx hb d_P_step_121 rfl (lv_at hl 2 rfl) ?_
  refine lv_bipush (v := 101) hx hb d_P_step_122 (by decide) ?_
  refine lv_icmp_ne (tgt := 131) hx hb d_P_step_124 (by decide) (fun c124 => ?_) (fun c124 => ?_)
  · have h := ite_f c124 h
    refine lv_iconst (v := 0) hx hb d_P_step_131 (by decide) ?_
    exact w_P_step_132 C n x1 (0 : Int32) h hT hW hS (lv_sub hl [0, 1] rfl)
  · have h := ite_t c124 h
    refine lv_iconst (v := 1) hx hb d_P_step_127 (by decide) ?_
    refine lv_goto (tgt := 132) hx hb d_P_step_128 (by decide) ?_
    exact w_P_step_132 C n x1 (1 : Int32) h hT hW hS (lv_sub hl [0, 1] rfl)
set_option maxHeartbeats 4000000 in
set_option maxRecDepth 100000 in
theorem w_P_step_177 {ad0 ad : Nat → Nat} {S0 : HS} (C : CB p s m args c meth b_P_step "TwoLevelParser" 3 none D cA z ac) (n : Nat) {S' : HS} (y0 : Int32) (y1 : Nat) {S : HS} {H : Heap} {locs : List Loc} {ls : Array Slot} (h : f_P_step_b177 n y0 y1 S = some S') (hT : AC S0 ad0 S ad) (hW : HW D cA z ac E1 ad S H) (hS : va_S (zA z) s.heap H locs) (hl : lv_has ls 3 []) : GA p l e 9 s m args below meth c D cA z ac E1 ad0 S0 (fun _ => none) S' S H locs (F0 m 177 ls [.int (y0), .ref (ad y1), .ref (ad 0)]) := by
  obtain ⟨⟨hx, hb, hml, hown, hts⟩, hK, hr, hlo⟩ := id C
  have hF : MN S S' := m_P_step_177 h
  unfold f_P_step_b177 at h
  obtain ⟨S26, eS26, h⟩ := ob_some h
  refine hx_V (i := 0) (As := [.ref (ad y1), .int (y0)]) (rest := []) C hW hS (s_P_variable n y1 y0 eS26) km_P_311 kv_P_variable ke_P_variable kn_P kw_P_variable kd_P_variable (hW.fx 0 rfl) rfl q_P rfl ⟨(Nat.le_of_ble_eq_true rfl), (Nat.le_of_ble_eq_true rfl)⟩ (hF.le _) rfl hl.1 rfl (Nat.le_of_ble_eq_true rfl) d_P_step_177 (fun H locs hW hS => ?_)
  have hkS26 : S26.2.2.2 = S.2.2.2 := k_P_variable eS26
  refine ac_w hkS26 ?_
  have hT := hT.k hkS26
  have hF := hF.kL hkS26
  refine lv_goto (tgt := 217) hx hb d_P_step_180 (by decide) ?_
  have h := Option.some.inj h
  subst h
  exact ea_v C hT hW hS d_P_step_217
set_option maxHeartbeats 4000000 in
set_option maxRecDepth 100000 in
theorem w_P_step_164 {ad0 ad : Nat → Nat} {S0 : HS} (C : CB p s m args c meth b_P_step "TwoLevelParser" 3 none D cA z ac) (n : Nat) {S' : HS} (x1 : Nat) (x2 : Int32) {S : HS} {H : Heap} {locs : List Loc} {ls : Array Slot} (h : f_P_step_b164 n x1 x2 S = some S') (hT : AC S0 ad0 S ad) (hW : HW D cA z ac E1 ad S H) (hS : va_S (zA z) s.heap H locs) (hl : lv_has ls 3 [(0, .ref (ad 0)), (1, .ref (ad x1)), (2, .int (x2))]) : GA p l e 9 s m args below meth c D cA z ac E1 ad0 S0 (fun _ => none) S' S H locs (F0 m 164 ls []) := by
  obtain ⟨⟨hx, hb, hml, hown, hts⟩, hK, hr, hlo⟩ := id C
  have hF : MN S S' := m_P_step_164 h
  unfold f_P_step_b164 at h
  refine lv_aload_n hx hb d_P_step_164 rfl (lv_at hl 0 rfl) ?_
  refine lv_aload_n hx hb d_P_step_165 rfl (lv_at hl 1 rfl) ?_
  refine lv_iload_n hx hb d_P_step_166 rfl (lv_at hl 2 rfl) ?_
  refine lv_bipush (v := 121) hx hb d_P_step_167 (by decide) ?_
  refine lv_icmp_ne (tgt := 176) hx hb d_P_step_169 (by decide) (fun c169 => ?_) (fun c169 => ?_)
  · have h := ite_f c169 h
    refine lv_iconst (v := 0) hx hb d_P_step_176 (by decide) ?_
    exact w_P_step_177 C n (0 : Int32) x1 h hT hW hS (lv_sub hl [] rfl)
  · have h := ite_t c169 h
    refine lv_iconst (v := 1) hx hb d_P_step_172 (by decide) ?_
    refine lv_goto (tgt := 177) hx hb d_P_step_173 (by decide) ?_
    exact w_P_step_177 C n (1 : Int32) x1 h hT hW hS (lv_sub hl [] rfl)
set_option maxHeartbeats 4000000 in
set_option maxRecDepth 100000 in
theorem w_P_step_41 {ad0 ad : Nat → Nat} {S0 : HS} (C : CB p s m args c meth b_P_step "TwoLevelParser" 3 none D cA z ac) (n : Nat) {S' : HS} (x1 : Nat) (x2 : Int32) {S : HS} {H : Heap} {locs : List Loc} {ls : Array Slot} (h : f_P_step_b41 n x1 x2 S = some S') (hT : AC S0 ad0 S ad) (hW : HW D cA z ac E1 ad S H) (hS : va_S (zA z) s.heap H locs) (hl : lv_has ls 3 [(0, .ref (ad 0)), (1, .ref (ad x1)), (2, .int (x2))]) : GA p l e 9 s m args below meth c D cA z ac E1 ad0 S0 (fun _ => none) S' S H locs (F0 m 41 ls []) := by
  obtain ⟨⟨hx, hb, hml, hown, hts⟩, hK, hr, hlo⟩ := id C
  have hF : MN S S' := m_P_step_41 h
  unfold f_P_step_b41 at h
  refine lv_aload_n hx hb d_P_step_41 rfl (lv_at hl 1 rfl) ?_
  refine lv_dup hx hb d_P_step_42 rfl ?_
  obtain ⟨g11, h⟩ := gd_some h
  refine hg_i C hW x1 2 g11.2 g11.1 q_O (by decide) rfl (lkN C kf_P_292) d_P_step_43 ?_
  refine lv_iconst (v := 1) hx hb d_P_step_46 (by decide) ?_
  refine lv_iadd hx hb d_P_step_47 ?_
  obtain ⟨g12, h⟩ := gd_some h
  obtain ⟨S13, eS13, h⟩ := lt_some h
  refine hp_i C hW hS x1 2 g12.2 g12.1 q_O (by decide) rfl rfl rfl (lkN C kf_P_292) eS13 d_P_step_48 (fun H locs hW hS => ?_)
  have hkS13 : S13.2.2.2 = S.2.2.2 := by rw [eS13]; rfl
  refine ac_w hkS13 ?_
  have hT := hT.k hkS13
  have hF := hF.kL hkS13
  refine lv_iload_n hx hb d_P_step_51 rfl (lv_at hl 2 rfl) ?_
  by_cases c52_40 : x2 = (40 : Int32)
  · have h := ite_t c52_40 h
    refine lv_lookup (off := 147) (tgt := 199) hx hb d_P_step_52 (by decide) (by rw [c52_40]; decide) (by decide) ?_
    refine lv_aload_n hx hb d_P_step_199 rfl (lv_at hl 0 rfl) ?_
    refine hc_so (i := 0) C hW hS (by decide) kf_P_188 d_P_step_200 ?_
    obtain ⟨S14, eS14, h⟩ := ob_some h
    refine hx_V (i := 0) (As := [.ref (ad 500)]) (rest := []) C hW hS (s_P_pass n 500 eS14) km_P_205 kv_P_pass ke_P_pass kn_P kw_P_pass kd_P_pass (hW.fx 0 rfl) rfl q_P rfl ⟨(Nat.le_of_ble_eq_true rfl), (Nat.le_of_ble_eq_true rfl)⟩ (hF.le _) rfl hl.1 rfl (Nat.le_of_ble_eq_true rfl) d_P_step_203 (fun H locs hW hS => ?_)
    have hkS14 : S14.2.2.2 = S13.2.2.2 := k_P_pass eS14
    refine ac_w hkS14 ?_
    have hT := hT.k hkS14
    have hF := hF.kL hkS14
    refine lv_goto (tgt := 217) hx hb d_P_step_206 (by decide) ?_
    have h := Option.some.inj h
    subst h
    exact ea_v C hT hW hS d_P_step_217
  · have h := ite_f c52_40 h
    by_cases c52_41 : x2 = (41 : Int32)
    · have h := ite_t c52_41 h
      refine lv_lookup (off := 157) (tgt := 209) hx hb d_P_step_52 (by decide) (by rw [c52_41]; decide) (by decide) ?_
      refine lv_aload_n hx hb d_P_step_209 rfl (lv_at hl 0 rfl) ?_
      refine lv_aload_n hx hb d_P_step_210 rfl (lv_at hl 1 rfl) ?_
      obtain ⟨S15, eS15, h⟩ := ob_some h
      refine hx_V (i := 0) (As := [.ref (ad x1)]) (rest := []) C hW hS (s_P_close n x1 eS15) km_P_319 kv_P_close ke_P_close kn_P kw_P_close kd_P_close (hW.fx 0 rfl) rfl q_P rfl ⟨(Nat.le_of_ble_eq_true rfl), (Nat.le_of_ble_eq_true rfl)⟩ (hF.le _) rfl hl.1 rfl (Nat.le_of_ble_eq_true rfl) d_P_step_211 (fun H locs hW hS => ?_)
      have hkS15 : S15.2.2.2 = S13.2.2.2 := k_P_close eS15
      refine ac_w hkS15 ?_
      have hT := hT.k hkS15
      have hF := hF.kL hkS15
      refine lv_goto (tgt := 217) hx hb d_P_step_214 (by decide) ?_
      have h := Option.some.inj h
      subst h
      exact ea_v C hT hW hS d_P_step_217
    · have h := ite_f c52_41 h
      by_cases c52_99 : x2 = (99 : Int32)
      · have h := ite_t c52_99 h
        refine lv_lookup (off := 68) (tgt := 120) hx hb d_P_step_52 (by decide) (by rw [c52_99]; decide) (by decide) ?_
        exact w_P_step_120 C n x1 x2 h hT hW hS (lv_sub hl [0, 1, 2] rfl)
      · have h := ite_f c52_99 h
        by_cases c52_101 : x2 = (101 : Int32)
        · have h := ite_t c52_101 h
          refine lv_lookup (off := 68) (tgt := 120) hx hb d_P_step_52 (by decide) (by rw [c52_101]; decide) (by decide) ?_
          exact w_P_step_120 C n x1 x2 h hT hW hS (lv_sub hl [0, 1, 2] rfl)
        · have h := ite_f c52_101 h
          by_cases c52_102 : x2 = (102 : Int32)
          · have h := ite_t c52_102 h
            refine lv_lookup (off := 131) (tgt := 183) hx hb d_P_step_52 (by decide) (by rw [c52_102]; decide) (by decide) ?_
            refine lv_aload_n hx hb d_P_step_183 rfl (lv_at hl 0 rfl) ?_
            refine lv_aload_n hx hb d_P_step_184 rfl (lv_at hl 0 rfl) ?_
            refine hg_r (j := 3) C hW 0 1 (hW.fx 0 rfl) rfl q_P (by decide) rfl (hW.fn (E := E1) (i := 0) (k := 1) rfl) (lkF C kf_P_118) d_P_step_185 ?_
            refine lv_aload_n hx hb d_P_step_188 rfl (lv_at hl 1 rfl) ?_
            obtain ⟨g16, h⟩ := gd_some h
            refine hg_i C hW x1 0 g16.2 g16.1 q_O (by decide) rfl (lkN C kf_P_262) d_P_step_189 ?_
            obtain ⟨g17, h⟩ := gd_some h
            obtain ⟨j18, ej18, h⟩ := ob_some h
            refine ha_r (t := 3) (ck := 13) (j := j18) C hW 3 (hW.fx 3 rfl) rfl (by decide) rfl rfl g17 ej18 d_P_step_192 ?_
            obtain ⟨S19, eS19, h⟩ := ob_some h
            refine hx_V (i := 0) (As := [.ref (ad j18)]) (rest := []) C hW hS (s_P_function n j18 eS19) km_P_315 kv_P_function ke_P_function kn_P kw_P_function kd_P_function (hW.fx 0 rfl) rfl q_P rfl ⟨(Nat.le_of_ble_eq_true rfl), (Nat.le_of_ble_eq_true rfl)⟩ (hF.le _) rfl hl.1 rfl (Nat.le_of_ble_eq_true rfl) d_P_step_193 (fun H locs hW hS => ?_)
            have hkS19 : S19.2.2.2 = S13.2.2.2 := k_P_function eS19
            refine ac_w hkS19 ?_
            have hT := hT.k hkS19
            have hF := hF.kL hkS19
            refine lv_goto (tgt := 217) hx hb d_P_step_196 (by decide) ?_
            have h := Option.some.inj h
            subst h
            exact ea_v C hT hW hS d_P_step_217
          · have h := ite_f c52_102 h
            by_cases c52_120 : x2 = (120 : Int32)
            · have h := ite_t c52_120 h
              refine lv_lookup (off := 112) (tgt := 164) hx hb d_P_step_52 (by decide) (by rw [c52_120]; decide) (by decide) ?_
              exact w_P_step_164 C n x1 x2 h hT hW hS (lv_sub hl [0, 1, 2] rfl)
            · have h := ite_f c52_120 h
              by_cases c52_121 : x2 = (121 : Int32)
              · have h := ite_t c52_121 h
                refine lv_lookup (off := 112) (tgt := 164) hx hb d_P_step_52 (by decide) (by rw [c52_121]; decide) (by decide) ?_
                exact w_P_step_164 C n x1 x2 h hT hW hS (lv_sub hl [0, 1, 2] rfl)
              · have h := ite_f c52_121 h
                refine lv_lookup (off := 165) (tgt := 217) hx hb d_P_step_52 (by decide) (by refine (lv_osw c52_40 (by decide)).trans ?_; refine (lv_osw c52_41 (by decide)).trans ?_; refine (lv_osw c52_99 (by decide)).trans ?_; refine (lv_osw c52_101 (by decide)).trans ?_; refine (lv_osw c52_102 (by decide)).trans ?_; refine (lv_osw c52_120 (by decide)).trans ?_; refine (lv_osw c52_121 (by decide)).trans ?_; rfl) (by decide) ?_
                have h := Option.some.inj h
                subst h
                exact ea_v C hT hW hS d_P_step_217
set_option maxHeartbeats 4000000 in
set_option maxRecDepth 100000 in
theorem s_P_step (n : Nat) (x1 : Nat) {ad : Nat → Nat} {S : HS} {S' : HS} (h : f_P_step n x1 S = some S') : Met l y_P_step (.code y_P_step b_P_step 3 none :: lw_g) (rmD 9 (gC S' - gC S) (gN S' - gN S)) (PcH D cA z ac E1 ad [.ref (ad 0), .ref (ad x1)] S) (QA D cA z ac E1 ad S (fun _ => none) S') (gC S' - gC S) (gN S' - gN S) (zA z) := by
  refine Met.ofHA (own := "TwoLevelParser") (by decide) rfl (Nat.le_of_ble_eq_true rfl) ?_
  intro p e s m args below meth c H ls C hnm hW hS hl
  have hl : lv_has ls 3 [(0, .ref (ad 0)), (1, .ref (ad x1))] := hl
  obtain ⟨⟨hx, hb, hml, hown, hts⟩, hK, hr, hlo⟩ := id C
  have hF : MN S S' := m_P_step h
  have hT : AC S ad S ad := AC.rf
  unfold f_P_step at h
  refine lv_aload_n hx hb d_P_step_0 rfl (lv_at hl 1 rfl) ?_
  obtain ⟨g1, h⟩ := gd_some h
  obtain ⟨j2, ej2, h⟩ := ob_some h
  refine hg_r (j := j2) C hW x1 1 g1.2 g1.1 q_O (by decide) rfl ej2 (lkN C kf_P_288) d_P_step_1 ?_
  refine lv_aload_n hx hb d_P_step_4 rfl (lv_at hl 1 rfl) ?_
  obtain ⟨g3, h⟩ := gd_some h
  refine hg_i C hW x1 2 g3.2 g3.1 q_O (by decide) rfl (lkN C kf_P_292) d_P_step_5 ?_
  obtain ⟨r4, er4, h⟩ := ob_some h
  refine hx_chr C hW hS er4 km_P_9 ⟨(Nat.le_of_ble_eq_true rfl), (Nat.le_of_ble_eq_true rfl)⟩ (hF.le _) hl.1 (Nat.le_of_ble_eq_true rfl) d_P_step_8 (fun H locs hW hS => ?_)
  obtain ⟨v5, ev5, h⟩ := lt_some h
  refine lt_i_n (lv' := [(2, .int (v5)), (0, .ref (ad 0)), (1, .ref (ad x1))]) C d_P_step_11 rfl hl (by decide) ev5 rfl (fun ls hl => ?_)
  refine lv_iload_n hx hb d_P_step_12 rfl (lv_at hl 0 rfl) ?_
  refine lv_bipush (v := 42) hx hb d_P_step_13 (by decide) ?_
  refine lv_icmp_ne (tgt := 41) hx hb d_P_step_15 (by decide) (fun c15 => ?_) (fun c15 => ?_)
  · have h := ite_f c15 h
    exact w_P_step_41 C n x1 v5 h hT hW hS (lv_sub hl [1, 2, 0] rfl)
  · have h := ite_t c15 h
    refine lv_aload_n hx hb d_P_step_18 rfl (lv_at hl 1 rfl) ?_
    refine hg_r (j := 1) C hW 0 0 (hW.fx 0 rfl) rfl q_P (by decide) rfl (hW.fn (E := E1) (i := 0) (k := 0) rfl) (lkF C kf_P_112) d_P_step_19 ?_
    obtain ⟨j6, ej6, h⟩ := ob_some h
    refine hg_r (j := j6) C hW 1 3 (hW.fx 1 rfl) rfl q_X (by decide) rfl ej6 (lkN C kf_P_149) d_P_step_22 ?_
    refine hc_so (i := 1) C hW hS (by decide) kf_P_218 d_P_step_25 ?_
    obtain ⟨g7, h⟩ := gd_some h
    refine hj_eq (tgt := 41) C hW g7.1 g7.2 d_P_step_28 (by decide) (fun c28 => ?_) (fun c28 => ?_)
    · have h := ite_t c28 h
      exact w_P_step_41 C n x1 v5 h hT hW hS (lv_sub hl [1, 2, 0] rfl)
    · have h := ite_f c28 h
      refine lv_aload_n hx hb d_P_step_31 rfl (lv_at hl 1 rfl) ?_
      refine lv_iconst (v := 1) hx hb d_P_step_32 (by decide) ?_
      refine lv_aload_n hx hb d_P_step_33 rfl (lv_at hl 2 rfl) ?_
      obtain ⟨g8, h⟩ := gd_some h
      refine hg_i C hW x1 3 g8.2 g8.1 q_O (by decide) rfl (lkN C kf_P_295) d_P_step_34 ?_
      obtain ⟨S10, eS10, h⟩ := ob_some h
      have hX := hW
      refine hx_VA (i := 0) (As := [.int ((1 : Int32)), .int ((gF S x1 3))]) (rest := []) C hW hS hT (s_P_expression n (1 : Int32) (gF S x1 3) eS10) (m_P_expression eS10) km_P_300 kv_P_expression ke_P_expression kn_P kw_P_expression kd_P_expression (hW.fx 0 rfl) rfl q_P rfl ⟨(Nat.le_of_ble_eq_true rfl), (Nat.le_of_ble_eq_true rfl)⟩ (MN.le (m_P_step_40 h) _) rfl hl.1 rfl (Nat.le_of_ble_eq_true rfl) d_P_step_37 (fun ad9 H locs hA hT hW hS => ?_)
      have hl : lv_has ls 3 [] := by exact lv_sub hl [] rfl
      exact w_P_step_40 C n h hT hW hS (lv_sub hl [] rfl)
end WA
def f_P_body_b54 (n : Nat) (kc : HS → Option HS) (S : HS) : Option HS :=
  kc S
def f_P_body_b25B (n : Nat) (kc : HS → Option HS) (S : HS) : Option HS :=
  (if (gF S 0 7) = 0 then
  (if (gF S 0 6) ≤ 0 then
  some S
  else
  gd (inR ((gF S 0 6) - (1 : Int32)) 4200) <|
  ob (gX S 5 ((gF S 0 6) - (1 : Int32)).toNatClampNeg) fun j7 =>
  ob (f_P_step n j7 S) fun S9 =>
  f_P_body_b54 n kc S9)
  else
  some S)
def f_P_body_b25 (n : Nat) (k : Nat) : HS → Option HS := lpF (fun _ => none) (f_P_body_b25B n) k
def f_P_body_b18 (n : Nat) (x1 : Nat) (y0 : Int32) (S : HS) : Option HS :=
  gd (kd x1 = 2 ∧ gD S x1 = true) <|
  ob (f_P_expression n y0 (gF S x1 2) S) fun S5 =>
  f_P_body_b25 n n S5
def f_P_body (n : Nat) (x1 : Nat) (S : HS) : Option HS :=
  lt (sF S 0 6 (0 : Int32)) fun S1 =>
  gd (kd x1 = 2 ∧ gD S1 x1 = true) <|
  (if (gF S1 x1 0) = 0 then
  f_P_body_b18 n x1 (1 : Int32) S1
  else
  f_P_body_b18 n x1 (0 : Int32) S1)
set_option maxHeartbeats 4000000 in
set_option maxRecDepth 100000 in
theorem m_P_body_54 {n : Nat} {kc : HS → Option HS} {S' : HS} (hkm : ∀ (S : HS), kc S = some S' → MN S S') {S : HS} (h : f_P_body_b54 n kc S = some S') : MN S S' := by
  unfold f_P_body_b54 at h
  have hm : MN S S := MN.rf
  exact hm.tr (hkm _ h)
set_option maxHeartbeats 4000000 in
set_option maxRecDepth 100000 in
theorem m_P_body_25B {n : Nat} {kc : HS → Option HS} {S' : HS} (hkm : ∀ (S : HS), kc S = some S' → MN S S') {S : HS} (h : f_P_body_b25B n kc S = some S') : MN S S' := by
  unfold f_P_body_b25B at h
  have hm : MN S S := MN.rf
  rcases ite_or h with ⟨c29, h⟩ | ⟨c29, h⟩
  · rcases ite_or h with ⟨c36, h⟩ | ⟨c36, h⟩
    · have h := Option.some.inj h
      subst h
      exact hm
    · obtain ⟨g6, h⟩ := gd_some h
      obtain ⟨j7, ej7, h⟩ := ob_some h
      obtain ⟨S9, eS9, h⟩ := ob_some h
      have hm := hm.tr (m_P_step eS9)
      exact hm.tr (m_P_body_54 hkm h)
  · have h := Option.some.inj h
    subst h
    exact hm
set_option maxHeartbeats 4000000 in
set_option maxRecDepth 100000 in
theorem m_P_body_25 {n : Nat} (k : Nat) {S' : HS} : ∀ {S : HS}, f_P_body_b25 n k S = some S' → MN S S' := by
  induction k with
  | zero => intro S h; cases h
  | succ k ih => intro S h; exact m_P_body_25B (n := n) (kc := f_P_body_b25 n k) (fun S h => ih h) h
set_option maxHeartbeats 4000000 in
set_option maxRecDepth 100000 in
theorem m_P_body_18 {n : Nat} {S' : HS} {x1 : Nat} {y0 : Int32} {S : HS} (h : f_P_body_b18 n x1 y0 S = some S') : MN S S' := by
  unfold f_P_body_b18 at h
  have hm : MN S S := MN.rf
  obtain ⟨g3, h⟩ := gd_some h
  obtain ⟨S5, eS5, h⟩ := ob_some h
  have hm := hm.tr (m_P_expression eS5)
  exact hm.tr (m_P_body_25 n h)
set_option maxHeartbeats 4000000 in
set_option maxRecDepth 100000 in
theorem m_P_body {n : Nat} {x1 : Nat} {S : HS} {S' : HS} (h : f_P_body n x1 S = some S') : MN S S' := by
  unfold f_P_body at h
  have hm : MN S S := MN.rf
  obtain ⟨S1, eS1, h⟩ := lt_some h
  have hm := hm.kR (show S1.2.2.2 = S.2.2.2 from by rw [eS1]; rfl)
  obtain ⟨g2, h⟩ := gd_some h
  rcases ite_or h with ⟨c10, h⟩ | ⟨c10, h⟩
  · exact hm.tr (m_P_body_18 h)
  · exact hm.tr (m_P_body_18 h)
section WA
variable {p : Program} {l : Launch} {e : Env} {s : State} {m : MethodId} {args : Array Value} {below : List Frame} {meth : Method} {c : Code} {D : va_G} {cA : Nat → ClassId} {z : Nat} {ac : Nat → Nat}
set_option maxHeartbeats 4000000 in
set_option maxRecDepth 100000 in
theorem w_P_body_54 {ad0 ad : Nat → Nat} {S0 : HS} (C : CB p s m args c meth b_P_body "TwoLevelParser" 2 none D cA z ac) (n : Nat) (kc : HS → Option HS) {S' : HS} (hk : ∀ (S : HS) {ad : Nat → Nat} {H : Heap} {locs : List Loc} {ls : Array Slot}, kc S = some S' → AC S0 ad0 S ad → HW D cA z ac E1 ad S H → va_S (zA z) s.heap H locs → lv_has ls 2 [(0, .ref (ad 0))] → GA p l e 10 s m args below meth c D cA z ac E1 ad0 S0 (fun _ => none) S' S H locs (F0 m 25 ls [])) (hkm : ∀ (S : HS), kc S = some S' → MN S S') {S : HS} {H : Heap} {locs : List Loc} {ls : Array Slot} (h : f_P_body_b54 n kc S = some S') (hT : AC S0 ad0 S ad) (hW : HW D cA z ac E1 ad S H) (hS : va_S (zA z) s.heap H locs) (hl : lv_has ls 2 [(0, .ref (ad 0))]) : GA p l e 10 s m args below meth c D cA z ac E1 ad0 S0 (fun _ => none) S' S H locs (F0 m 54 ls []) := by
  obtain ⟨⟨hx, hb, hml, hown, hts⟩, hK, hr, hlo⟩ := id C
  have hF : MN S S' := m_P_body_54 hkm h
  unfold f_P_body_b54 at h
  refine lv_goto (tgt := 25) hx hb d_P_body_54 (by decide) ?_
  exact hk _ h hT hW hS (lv_sub hl [0] rfl)
set_option maxHeartbeats 4000000 in
set_option maxRecDepth 100000 in
theorem w_P_body_25B {ad0 ad : Nat → Nat} {S0 : HS} (C : CB p s m args c meth b_P_body "TwoLevelParser" 2 none D cA z ac) (n : Nat) (kc : HS → Option HS) {S' : HS} (hk : ∀ (S : HS) {ad : Nat → Nat} {H : Heap} {locs : List Loc} {ls : Array Slot}, kc S = some S' → AC S0 ad0 S ad → HW D cA z ac E1 ad S H → va_S (zA z) s.heap H locs → lv_has ls 2 [(0, .ref (ad 0))] → GA p l e 10 s m args below meth c D cA z ac E1 ad0 S0 (fun _ => none) S' S H locs (F0 m 25 ls [])) (hkm : ∀ (S : HS), kc S = some S' → MN S S') {S : HS} {H : Heap} {locs : List Loc} {ls : Array Slot} (h : f_P_body_b25B n kc S = some S') (hT : AC S0 ad0 S ad) (hW : HW D cA z ac E1 ad S H) (hS : va_S (zA z) s.heap H locs) (hl : lv_has ls 2 [(0, .ref (ad 0))]) : GA p l e 10 s m args below meth c D cA z ac E1 ad0 S0 (fun _ => none) S' S H locs (F0 m 25 ls []) := by
  obtain ⟨⟨hx, hb, hml, hown, hts⟩, hK, hr, hlo⟩ := id C
  have hF : MN S S' := m_P_body_25B hkm h
  unfold f_P_body_b25B at h
  refine lv_aload_n hx hb d_P_body_25 rfl (lv_at hl 0 rfl) ?_
  refine hg_i C hW 0 7 (hW.fx 0 rfl) rfl q_P (by decide) rfl (lkF C kf_P_146) d_P_body_26 ?_
  refine lv_if_ne (tgt := 57) hx hb d_P_body_29 (by decide) (fun c29 => ?_) (fun c29 => ?_)
  · have h := ite_f c29 h
    have h := Option.some.inj h
    subst h
    exact ea_v C hT hW hS d_P_body_57
  · have h := ite_t c29 h
    refine lv_aload_n hx hb d_P_body_32 rfl (lv_at hl 0 rfl) ?_
    refine hg_i C hW 0 6 (hW.fx 0 rfl) rfl q_P (by decide) rfl (lkF C kf_P_259) d_P_body_33 ?_
    refine lv_if_le (tgt := 57) hx hb d_P_body_36 (by decide) (fun c36 => ?_) (fun c36 => ?_)
    · have h := ite_t c36 h
      have h := Option.some.inj h
      subst h
      exact ea_v C hT hW hS d_P_body_57
    · have h := ite_f c36 h
      refine lv_aload_n hx hb d_P_body_39 rfl (lv_at hl 0 rfl) ?_
      refine lv_aload_n hx hb d_P_body_40 rfl (lv_at hl 0 rfl) ?_
      refine hg_r (j := 5) C hW 0 5 (hW.fx 0 rfl) rfl q_P (by decide) rfl (hW.fn (E := E1) (i := 0) (k := 5) rfl) (lkF C kf_P_130) d_P_body_41 ?_
      refine lv_aload_n hx hb d_P_body_44 rfl (lv_at hl 0 rfl) ?_
      refine hg_i C hW 0 6 (hW.fx 0 rfl) rfl q_P (by decide) rfl (lkF C kf_P_259) d_P_body_45 ?_
      refine lv_iconst (v := 1) hx hb d_P_body_48 (by decide) ?_
      refine lv_isub hx hb d_P_body_49 ?_
      obtain ⟨g6, h⟩ := gd_some h
      obtain ⟨j7, ej7, h⟩ := ob_some h
      refine ha_r (t := 5) (ck := 15) (j := j7) C hW 5 (hW.fx 5 rfl) rfl (by decide) rfl rfl g6 ej7 d_P_body_50 ?_
      obtain ⟨S9, eS9, h⟩ := ob_some h
      have hX := hW
      refine hx_VA (i := 0) (As := [.ref (ad j7)]) (rest := []) C hW hS hT (s_P_step n j7 eS9) (m_P_step eS9) km_P_304 kv_P_step ke_P_step kn_P kw_P_step kd_P_step (hW.fx 0 rfl) rfl q_P rfl ⟨(Nat.le_of_ble_eq_true rfl), (Nat.le_of_ble_eq_true rfl)⟩ (MN.le (m_P_body_54 hkm h) _) rfl hl.1 rfl (Nat.le_of_ble_eq_true rfl) d_P_body_51 (fun ad8 H locs hA hT hW hS => ?_)
      have hl : lv_has ls 2 [(0, .ref (ad8 0))] := by rw [hA 0 (hX.fx 0 rfl)]; exact lv_sub hl [0] rfl
      exact w_P_body_54 C n kc hk hkm h hT hW hS (lv_sub hl [0] rfl)
set_option maxHeartbeats 4000000 in
set_option maxRecDepth 100000 in
theorem w_P_body_25 {ad0 : Nat → Nat} {S0 : HS} (C : CB p s m args c meth b_P_body "TwoLevelParser" 2 none D cA z ac) (n : Nat) (k : Nat) {S' : HS} : ∀ {S : HS} {ad : Nat → Nat} {H : Heap} {locs : List Loc} {ls : Array Slot}, f_P_body_b25 n k S = some S' → AC S0 ad0 S ad → HW D cA z ac E1 ad S H → va_S (zA z) s.heap H locs → lv_has ls 2 [(0, .ref (ad 0))] → GA p l e 10 s m args below meth c D cA z ac E1 ad0 S0 (fun _ => none) S' S H locs (F0 m 25 ls []) := by
  induction k with
  | zero => intro S ad H locs ls h; cases h
  | succ k ih => intro S ad H locs ls h hT hW hS hl; exact w_P_body_25B C n (f_P_body_b25 n k) (fun S ad H locs ls h hT hW hS hl => ih h hT hW hS hl) (fun S h => m_P_body_25 k h) h hT hW hS hl
set_option maxHeartbeats 4000000 in
set_option maxRecDepth 100000 in
theorem w_P_body_18 {ad0 ad : Nat → Nat} {S0 : HS} (C : CB p s m args c meth b_P_body "TwoLevelParser" 2 none D cA z ac) (n : Nat) {S' : HS} (x1 : Nat) (y0 : Int32) {S : HS} {H : Heap} {locs : List Loc} {ls : Array Slot} (h : f_P_body_b18 n x1 y0 S = some S') (hT : AC S0 ad0 S ad) (hW : HW D cA z ac E1 ad S H) (hS : va_S (zA z) s.heap H locs) (hl : lv_has ls 2 [(0, .ref (ad 0)), (1, .ref (ad x1))]) : GA p l e 10 s m args below meth c D cA z ac E1 ad0 S0 (fun _ => none) S' S H locs (F0 m 18 ls [.int (y0), .ref (ad 0)]) := by
  obtain ⟨⟨hx, hb, hml, hown, hts⟩, hK, hr, hlo⟩ := id C
  have hF : MN S S' := m_P_body_18 h
  unfold f_P_body_b18 at h
  refine lv_aload_n hx hb d_P_body_18 rfl (lv_at hl 1 rfl) ?_
  obtain ⟨g3, h⟩ := gd_some h
  refine hg_i C hW x1 2 g3.2 g3.1 q_D (by decide) rfl (lkN C kf_P_217) d_P_body_19 ?_
  obtain ⟨S5, eS5, h⟩ := ob_some h
  have hX := hW
  refine hx_VA (i := 0) (As := [.int (y0), .int ((gF S x1 2))]) (rest := []) C hW hS hT (s_P_expression n y0 (gF S x1 2) eS5) (m_P_expression eS5) km_P_300 kv_P_expression ke_P_expression kn_P kw_P_expression kd_P_expression (hW.fx 0 rfl) rfl q_P rfl ⟨(Nat.le_of_ble_eq_true rfl), (Nat.le_of_ble_eq_true rfl)⟩ (MN.le (m_P_body_25 n h) _) rfl hl.1 rfl (Nat.le_of_ble_eq_true rfl) d_P_body_22 (fun ad4 H locs hA hT hW hS => ?_)
  have hl : lv_has ls 2 [(0, .ref (ad4 0))] := by rw [hA 0 (hX.fx 0 rfl)]; exact lv_sub hl [0] rfl
  exact w_P_body_25 C n n h hT hW hS (lv_sub hl [0] rfl)
set_option maxHeartbeats 4000000 in
set_option maxRecDepth 100000 in
theorem s_P_body (n : Nat) (x1 : Nat) {ad : Nat → Nat} {S : HS} {S' : HS} (h : f_P_body n x1 S = some S') : Met l y_P_body (.code y_P_body b_P_body 2 none :: lw_g) (rmD 10 (gC S' - gC S) (gN S' - gN S)) (PcH D cA z ac E1 ad [.ref (ad 0), .ref (ad x1)] S) (QA D cA z ac E1 ad S (fun _ => none) S') (gC S' - gC S) (gN S' - gN S) (zA z) := by
  refine Met.ofHA (own := "TwoLevelParser") (by decide) rfl (Nat.le_of_ble_eq_true rfl) ?_
  intro p e s m args below meth c H ls C hnm hW hS hl
  have hl : lv_has ls 2 [(0, .ref (ad 0)), (1, .ref (ad x1))] := hl
  obtain ⟨⟨hx, hb, hml, hown, hts⟩, hK, hr, hlo⟩ := id C
  have hF : MN S S' := m_P_body h
  have hT : AC S ad S ad := AC.rf
  unfold f_P_body at h
  refine lv_aload_n hx hb d_P_body_0 rfl (lv_at hl 0 rfl) ?_
  refine lv_iconst (v := 0) hx hb d_P_body_1 (by decide) ?_
  obtain ⟨S1, eS1, h⟩ := lt_some h
  refine hp_i C hW hS 0 6 (hW.fx 0 rfl) rfl q_P (by decide) rfl rfl rfl (lkF C kf_P_259) eS1 d_P_body_2 (fun H locs hW hS => ?_)
  have hkS1 : S1.2.2.2 = S.2.2.2 := by rw [eS1]; rfl
  refine ac_w hkS1 ?_
  have hT := hT.k hkS1
  have hF := hF.kL hkS1
  refine lv_aload_n hx hb d_P_body_5 rfl (lv_at hl 0 rfl) ?_
  refine lv_aload_n hx hb d_P_body_6 rfl (lv_at hl 1 rfl) ?_
  obtain ⟨g2, h⟩ := gd_some h
  refine hg_i C hW x1 0 g2.2 g2.1 q_D (by decide) rfl (lkN C kf_P_201) d_P_body_7 ?_
  refine lv_if_ne (tgt := 17) hx hb d_P_body_10 (by decide) (fun c10 => ?_) (fun c10 => ?_)
  · have h := ite_f c10 h
    refine lv_iconst (v := 0) hx hb d_P_body_17 (by decide) ?_
    exact w_P_body_18 C n x1 (0 : Int32) h hT hW hS (lv_sub hl [0, 1] rfl)
  · have h := ite_t c10 h
    refine lv_iconst (v := 1) hx hb d_P_body_13 (by decide) ?_
    refine lv_goto (tgt := 18) hx hb d_P_body_14 (by decide) ?_
    exact w_P_body_18 C n x1 (1 : Int32) h hT hW hS (lv_sub hl [0, 1] rfl)
end WA
def f_P_readDefinition_b205 (n : Nat) (S : HS) : Option HS :=
  ob (f_P_pass n 501 S) fun S35 =>
  lt (sF S35 0 4 ((gF S35 0 4) + (1 : Int32))) fun S36 =>
  some S36
def f_P_readDefinition_b182 (n : Nat) (x1 : Nat) (y0 : Int32) (y1 : Nat) (S : HS) : Option HS :=
  gd (kd y1 = 2 ∧ gD S y1 = true) <|
  lt (sF S y1 1 y0) fun S30 =>
  gd (kd x1 = 2 ∧ gD S30 x1 = true) <|
  lt (sF S30 x1 3 (gF S30 0 2)) fun S32 =>
  (if (gF S32 0 7) = 0 then
  ob (f_P_body n x1 S32) fun S34 =>
  f_P_readDefinition_b205 n S34
  else
  f_P_readDefinition_b205 n S32)
def f_P_readDefinition_b155 (n : Nat) (x1 : Nat) (S : HS) : Option HS :=
  ob (f_P_pass n 501 S) fun S25 =>
  (if (gF S25 0 7) = 0 then
  gd (kd x1 = 2 ∧ gD S25 x1 = true) <|
  ob2 (f_P_type n (gF S25 x1 0) S25) fun r28 S27 =>
  f_P_readDefinition_b182 n x1 r28 x1 S27
  else
  f_P_readDefinition_b182 n x1 (0 : Int32) x1 S25)
def f_P_readDefinition_b127B (n : Nat) (kc : Nat → HS → Option HS) (x1 : Nat) (S : HS) : Option HS :=
  (if (gF S 0 7) = 0 then
  ob (gX S 1 3) fun j22 =>
  gd (isSo j22 ∧ isSo 501) (if j22 = 501 then
  f_P_readDefinition_b155 n x1 S
  else
  ob (f_P_readParameter n x1 S) fun S24 =>
  kc x1 S24)
  else
  f_P_readDefinition_b155 n x1 S)
def f_P_readDefinition_b127 (n : Nat) (k : Nat) : Nat → HS → Option HS := lpF (fun _ _ => none) (f_P_readDefinition_b127B n) k
def f_P_readDefinition_b86 (n : Nat) (x1 : Nat) (S : HS) : Option HS :=
  gd (kd x1 = 2 ∧ gD S x1 = true) <|
  lt (sL S x1 4 (gL S 1 5)) fun S14 =>
  gd (kd x1 = 2 ∧ gD S14 x1 = true) <|
  lt (sF S14 x1 5 (gF S14 1 4)) fun S16 =>
  ob (f_P_pass n 502 S16) fun S17 =>
  ob (f_P_pass n 500 S17) fun S18 =>
  gd (kd x1 = 2 ∧ gD S18 x1 = true) <|
  lt (sF S18 x1 2 (0 : Int32)) fun S20 =>
  f_P_readDefinition_b127 n n x1 S20
def f_P_readDefinition_b82 (n : Nat) (x1 : Nat) (S : HS) : Option HS :=
  ob (f_P_refuse S) fun S21 =>
  f_P_readDefinition_b86 n x1 S21
def f_P_readDefinition_b47 (n : Nat) (x1 : Nat) (S : HS) : Option HS :=
  ob (f_P_pass n 502 S) fun S10 =>
  (if (gF S10 0 7) = 0 then
  ob (f_P_isName n S10) fun r11 =>
  (if r11 = 0 then
  f_P_readDefinition_b82 n x1 S10
  else
  ob (f_P_isDefined n (gL S10 1 5) S10) fun r12 =>
  (if r12 = 0 then
  f_P_readDefinition_b86 n x1 S10
  else
  f_P_readDefinition_b82 n x1 S10))
  else
  f_P_readDefinition_b86 n x1 S10)
def f_P_readDefinition (n : Nat) (S : HS) : Option HS :=
  ob (f_X_next n S) fun S1 =>
  gd (inR (gF S1 0 4) 64) <|
  ob (f_P_isWord n 300 S1) fun r3 =>
  gd (kd (6 + 3 * (gF S1 0 4).toNatClampNeg) = 2 ∧ gD S1 (6 + 3 * (gF S1 0 4).toNatClampNeg) = true) <|
  gd (r3 = 0 ∨ r3 = 1) <|
  lt (sF S1 (6 + 3 * (gF S1 0 4).toNatClampNeg) 0 r3) fun S5 =>
  gd (kd (6 + 3 * (gF S1 0 4).toNatClampNeg) = 2 ∧ gD S5 (6 + 3 * (gF S1 0 4).toNatClampNeg) = true) <|
  (if (gF S5 (6 + 3 * (gF S1 0 4).toNatClampNeg) 0) = 0 then
  ob (f_P_isWord n 301 S5) fun r8 =>
  (if r8 = 0 then
  ob (f_P_refuse S5) fun S9 =>
  f_P_readDefinition_b47 n (6 + 3 * (gF S1 0 4).toNatClampNeg) S9
  else
  f_P_readDefinition_b47 n (6 + 3 * (gF S1 0 4).toNatClampNeg) S5)
  else
  f_P_readDefinition_b47 n (6 + 3 * (gF S1 0 4).toNatClampNeg) S5)
set_option maxHeartbeats 4000000 in
set_option maxRecDepth 100000 in
theorem m_P_readDefinition_205 {n : Nat} {S' : HS} {S : HS} (h : f_P_readDefinition_b205 n S = some S') : MN S S' := by
  unfold f_P_readDefinition_b205 at h
  have hm : MN S S := MN.rf
  obtain ⟨S35, eS35, h⟩ := ob_some h
  have hm := hm.kR (show S35.2.2.2 = S.2.2.2 from k_P_pass eS35)
  obtain ⟨S36, eS36, h⟩ := lt_some h
  have hm := hm.kR (show S36.2.2.2 = S35.2.2.2 from by rw [eS36]; rfl)
  have h := Option.some.inj h
  subst h
  exact hm
set_option maxHeartbeats 4000000 in
set_option maxRecDepth 100000 in
theorem m_P_readDefinition_182 {n : Nat} {S' : HS} {x1 : Nat} {y0 : Int32} {y1 : Nat} {S : HS} (h : f_P_readDefinition_b182 n x1 y0 y1 S = some S') : MN S S' := by
  unfold f_P_readDefinition_b182 at h
  have hm : MN S S := MN.rf
  obtain ⟨g29, h⟩ := gd_some h
  obtain ⟨S30, eS30, h⟩ := lt_some h
  have hm := hm.kR (show S30.2.2.2 = S.2.2.2 from by rw [eS30]; rfl)
  obtain ⟨g31, h⟩ := gd_some h
  obtain ⟨S32, eS32, h⟩ := lt_some h
  have hm := hm.kR (show S32.2.2.2 = S30.2.2.2 from by rw [eS32]; rfl)
  rcases ite_or h with ⟨c197, h⟩ | ⟨c197, h⟩
  · obtain ⟨S34, eS34, h⟩ := ob_some h
    have hm := hm.tr (m_P_body eS34)
    exact hm.tr (m_P_readDefinition_205 h)
  · exact hm.tr (m_P_readDefinition_205 h)
set_option maxHeartbeats 4000000 in
set_option maxRecDepth 100000 in
theorem m_P_readDefinition_155 {n : Nat} {S' : HS} {x1 : Nat} {S : HS} (h : f_P_readDefinition_b155 n x1 S = some S') : MN S S' := by
  unfold f_P_readDefinition_b155 at h
  have hm : MN S S := MN.rf
  obtain ⟨S25, eS25, h⟩ := ob_some h
  have hm := hm.kR (show S25.2.2.2 = S.2.2.2 from k_P_pass eS25)
  rcases ite_or h with ⟨c167, h⟩ | ⟨c167, h⟩
  · obtain ⟨g26, h⟩ := gd_some h
    obtain ⟨r28, S27, eS27, h⟩ := ob2_some h
    have hm := hm.kR (show S27.2.2.2 = S25.2.2.2 from k_P_type eS27)
    exact hm.tr (m_P_readDefinition_182 h)
  · exact hm.tr (m_P_readDefinition_182 h)
set_option maxHeartbeats 4000000 in
set_option maxRecDepth 100000 in
theorem m_P_readDefinition_127B {n : Nat} {kc : Nat → HS → Option HS} {S' : HS} (hkm : ∀ (x1 : Nat) (S : HS), kc x1 S = some S' → MN S S') {x1 : Nat} {S : HS} (h : f_P_readDefinition_b127B n kc x1 S = some S') : MN S S' := by
  unfold f_P_readDefinition_b127B at h
  have hm : MN S S := MN.rf
  rcases ite_or h with ⟨c131, h⟩ | ⟨c131, h⟩
  · obtain ⟨j22, ej22, h⟩ := ob_some h
    obtain ⟨g23, h⟩ := gd_some h
    rcases ite_or h with ⟨c144, h⟩ | ⟨c144, h⟩
    · exact hm.tr (m_P_readDefinition_155 h)
    · obtain ⟨S24, eS24, h⟩ := ob_some h
      have hm := hm.kR (show S24.2.2.2 = S.2.2.2 from k_P_readParameter eS24)
      exact hm.tr (hkm _ _ h)
  · exact hm.tr (m_P_readDefinition_155 h)
set_option maxHeartbeats 4000000 in
set_option maxRecDepth 100000 in
theorem m_P_readDefinition_127 {n : Nat} (k : Nat) {S' : HS} : ∀ {x1 : Nat} {S : HS}, f_P_readDefinition_b127 n k x1 S = some S' → MN S S' := by
  induction k with
  | zero => intro x1 S h; cases h
  | succ k ih => intro x1 S h; exact m_P_readDefinition_127B (n := n) (kc := f_P_readDefinition_b127 n k) (fun x1 S h => ih h) h
set_option maxHeartbeats 4000000 in
set_option maxRecDepth 100000 in
theorem m_P_readDefinition_86 {n : Nat} {S' : HS} {x1 : Nat} {S : HS} (h : f_P_readDefinition_b86 n x1 S = some S') : MN S S' := by
  unfold f_P_readDefinition_b86 at h
  have hm : MN S S := MN.rf
  obtain ⟨g13, h⟩ := gd_some h
  obtain ⟨S14, eS14, h⟩ := lt_some h
  have hm := hm.kR (show S14.2.2.2 = S.2.2.2 from by rw [eS14]; rfl)
  obtain ⟨g15, h⟩ := gd_some h
  obtain ⟨S16, eS16, h⟩ := lt_some h
  have hm := hm.kR (show S16.2.2.2 = S14.2.2.2 from by rw [eS16]; rfl)
  obtain ⟨S17, eS17, h⟩ := ob_some h
  have hm := hm.kR (show S17.2.2.2 = S16.2.2.2 from k_P_pass eS17)
  obtain ⟨S18, eS18, h⟩ := ob_some h
  have hm := hm.kR (show S18.2.2.2 = S17.2.2.2 from k_P_pass eS18)
  obtain ⟨g19, h⟩ := gd_some h
  obtain ⟨S20, eS20, h⟩ := lt_some h
  have hm := hm.kR (show S20.2.2.2 = S18.2.2.2 from by rw [eS20]; rfl)
  exact hm.tr (m_P_readDefinition_127 n h)
set_option maxHeartbeats 4000000 in
set_option maxRecDepth 100000 in
theorem m_P_readDefinition_82 {n : Nat} {S' : HS} {x1 : Nat} {S : HS} (h : f_P_readDefinition_b82 n x1 S = some S') : MN S S' := by
  unfold f_P_readDefinition_b82 at h
  have hm : MN S S := MN.rf
  obtain ⟨S21, eS21, h⟩ := ob_some h
  have hm := hm.kR (show S21.2.2.2 = S.2.2.2 from k_P_refuse eS21)
  exact hm.tr (m_P_readDefinition_86 h)
set_option maxHeartbeats 4000000 in
set_option maxRecDepth 100000 in
theorem m_P_readDefinition_47 {n : Nat} {S' : HS} {x1 : Nat} {S : HS} (h : f_P_readDefinition_b47 n x1 S = some S') : MN S S' := by
  unfold f_P_readDefinition_b47 at h
  have hm : MN S S := MN.rf
  obtain ⟨S10, eS10, h⟩ := ob_some h
  have hm := hm.kR (show S10.2.2.2 = S.2.2.2 from k_P_pass eS10)
  rcases ite_or h with ⟨c58, h⟩ | ⟨c58, h⟩
  · obtain ⟨r11, er11, h⟩ := ob_some h
    rcases ite_or h with ⟨c65, h⟩ | ⟨c65, h⟩
    · exact hm.tr (m_P_readDefinition_82 h)
    · obtain ⟨r12, er12, h⟩ := ob_some h
      rcases ite_or h with ⟨c79, h⟩ | ⟨c79, h⟩
      · exact hm.tr (m_P_readDefinition_86 h)
      · exact hm.tr (m_P_readDefinition_82 h)
  · exact hm.tr (m_P_readDefinition_86 h)
set_option maxHeartbeats 4000000 in
set_option maxRecDepth 100000 in
theorem m_P_readDefinition {n : Nat} {S : HS} {S' : HS} (h : f_P_readDefinition n S = some S') : MN S S' := by
  unfold f_P_readDefinition at h
  have hm : MN S S := MN.rf
  obtain ⟨S1, eS1, h⟩ := ob_some h
  have hm := hm.kR (show S1.2.2.2 = S.2.2.2 from k_X_next eS1)
  obtain ⟨g2, h⟩ := gd_some h
  obtain ⟨r3, er3, h⟩ := ob_some h
  obtain ⟨g4, h⟩ := gd_some h
  obtain ⟨g6, h⟩ := gd_some h
  obtain ⟨S5, eS5, h⟩ := lt_some h
  have hm := hm.kR (show S5.2.2.2 = S1.2.2.2 from by rw [eS5]; rfl)
  obtain ⟨g7, h⟩ := gd_some h
  rcases ite_or h with ⟨c31, h⟩ | ⟨c31, h⟩
  · obtain ⟨r8, er8, h⟩ := ob_some h
    rcases ite_or h with ⟨c40, h⟩ | ⟨c40, h⟩
    · obtain ⟨S9, eS9, h⟩ := ob_some h
      have hm := hm.kR (show S9.2.2.2 = S5.2.2.2 from k_P_refuse eS9)
      exact hm.tr (m_P_readDefinition_47 h)
    · exact hm.tr (m_P_readDefinition_47 h)
  · exact hm.tr (m_P_readDefinition_47 h)
section WA
variable {p : Program} {l : Launch} {e : Env} {s : State} {m : MethodId} {args : Array Value} {below : List Frame} {meth : Method} {c : Code} {D : va_G} {cA : Nat → ClassId} {z : Nat} {ac : Nat → Nat}
set_option maxHeartbeats 4000000 in
set_option maxRecDepth 100000 in
theorem w_P_readDefinition_205 {ad0 ad : Nat → Nat} {S0 : HS} (C : CB p s m args c meth b_P_readDefinition "TwoLevelParser" 2 none D cA z ac) (n : Nat) {S' : HS} {S : HS} {H : Heap} {locs : List Loc} {ls : Array Slot} (h : f_P_readDefinition_b205 n S = some S') (hT : AC S0 ad0 S ad) (hW : HW D cA z ac E1 ad S H) (hS : va_S (zA z) s.heap H locs) (hl : lv_has ls 2 [(0, .ref (ad 0))]) : GA p l e 11 s m args below meth c D cA z ac E1 ad0 S0 (fun _ => none) S' S H locs (F0 m 205 ls []) := by
  obtain ⟨⟨hx, hb, hml, hown, hts⟩, hK, hr, hlo⟩ := id C
  have hF : MN S S' := m_P_readDefinition_205 h
  unfold f_P_readDefinition_b205 at h
  refine lv_aload_n hx hb d_P_readDefinition_205 rfl (lv_at hl 0 rfl) ?_
  refine hc_so (i := 1) C hW hS (by decide) kf_P_218 d_P_readDefinition_206 ?_
  obtain ⟨S35, eS35, h⟩ := ob_some h
  refine hx_V (i := 0) (As := [.ref (ad 501)]) (rest := []) C hW hS (s_P_pass n 501 eS35) km_P_205 kv_P_pass ke_P_pass kn_P kw_P_pass kd_P_pass (hW.fx 0 rfl) rfl q_P rfl ⟨(Nat.le_of_ble_eq_true rfl), (Nat.le_of_ble_eq_true rfl)⟩ (hF.le _) rfl hl.1 rfl (Nat.le_of_ble_eq_true rfl) d_P_readDefinition_209 (fun H locs hW hS => ?_)
  have hkS35 : S35.2.2.2 = S.2.2.2 := k_P_pass eS35
  refine ac_w hkS35 ?_
  have hT := hT.k hkS35
  have hF := hF.kL hkS35
  refine lv_aload_n hx hb d_P_readDefinition_212 rfl (lv_at hl 0 rfl) ?_
  refine lv_dup hx hb d_P_readDefinition_213 rfl ?_
  refine hg_i C hW 0 4 (hW.fx 0 rfl) rfl q_P (by decide) rfl (lkF C kf_P_182) d_P_readDefinition_214 ?_
  refine lv_iconst (v := 1) hx hb d_P_readDefinition_217 (by decide) ?_
  refine lv_iadd hx hb d_P_readDefinition_218 ?_
  obtain ⟨S36, eS36, h⟩ := lt_some h
  refine hp_i C hW hS 0 4 (hW.fx 0 rfl) rfl q_P (by decide) rfl rfl rfl (lkF C kf_P_182) eS36 d_P_readDefinition_219 (fun H locs hW hS => ?_)
  have hkS36 : S36.2.2.2 = S35.2.2.2 := by rw [eS36]; rfl
  refine ac_w hkS36 ?_
  have hT := hT.k hkS36
  have hF := hF.kL hkS36
  have h := Option.some.inj h
  subst h
  exact ea_v C hT hW hS d_P_readDefinition_222
set_option maxHeartbeats 4000000 in
set_option maxRecDepth 100000 in
theorem w_P_readDefinition_182 {ad0 ad : Nat → Nat} {S0 : HS} (C : CB p s m args c meth b_P_readDefinition "TwoLevelParser" 2 none D cA z ac) (n : Nat) {S' : HS} (x1 : Nat) (y0 : Int32) (y1 : Nat) {S : HS} {H : Heap} {locs : List Loc} {ls : Array Slot} (h : f_P_readDefinition_b182 n x1 y0 y1 S = some S') (hT : AC S0 ad0 S ad) (hW : HW D cA z ac E1 ad S H) (hS : va_S (zA z) s.heap H locs) (hl : lv_has ls 2 [(0, .ref (ad 0)), (1, .ref (ad x1))]) : GA p l e 11 s m args below meth c D cA z ac E1 ad0 S0 (fun _ => none) S' S H locs (F0 m 182 ls [.int (y0), .ref (ad y1)]) := by
  obtain ⟨⟨hx, hb, hml, hown, hts⟩, hK, hr, hlo⟩ := id C
  have hF : MN S S' := m_P_readDefinition_182 h
  unfold f_P_readDefinition_b182 at h
  obtain ⟨g29, h⟩ := gd_some h
  obtain ⟨S30, eS30, h⟩ := lt_some h
  refine hp_i C hW hS y1 1 g29.2 g29.1 q_D (by decide) rfl rfl rfl (lkN C kf_P_229) eS30 d_P_readDefinition_182 (fun H locs hW hS => ?_)
  have hkS30 : S30.2.2.2 = S.2.2.2 := by rw [eS30]; rfl
  refine ac_w hkS30 ?_
  have hT := hT.k hkS30
  have hF := hF.kL hkS30
  refine lv_aload_n hx hb d_P_readDefinition_185 rfl (lv_at hl 1 rfl) ?_
  refine lv_aload_n hx hb d_P_readDefinition_186 rfl (lv_at hl 0 rfl) ?_
  refine hg_i C hW 0 2 (hW.fx 0 rfl) rfl q_P (by decide) rfl (lkF C kf_P_179) d_P_readDefinition_187 ?_
  obtain ⟨g31, h⟩ := gd_some h
  obtain ⟨S32, eS32, h⟩ := lt_some h
  refine hp_i C hW hS x1 3 g31.2 g31.1 q_D (by decide) rfl rfl rfl (lkN C kf_P_231) eS32 d_P_readDefinition_190 (fun H locs hW hS => ?_)
  have hkS32 : S32.2.2.2 = S30.2.2.2 := by rw [eS32]; rfl
  refine ac_w hkS32 ?_
  have hT := hT.k hkS32
  have hF := hF.kL hkS32
  refine lv_aload_n hx hb d_P_readDefinition_193 rfl (lv_at hl 0 rfl) ?_
  refine hg_i C hW 0 7 (hW.fx 0 rfl) rfl q_P (by decide) rfl (lkF C kf_P_146) d_P_readDefinition_194 ?_
  refine lv_if_ne (tgt := 205) hx hb d_P_readDefinition_197 (by decide) (fun c197 => ?_) (fun c197 => ?_)
  · have h := ite_f c197 h
    exact w_P_readDefinition_205 C n h hT hW hS (lv_sub hl [0] rfl)
  · have h := ite_t c197 h
    refine lv_aload_n hx hb d_P_readDefinition_200 rfl (lv_at hl 0 rfl) ?_
    refine lv_aload_n hx hb d_P_readDefinition_201 rfl (lv_at hl 1 rfl) ?_
    obtain ⟨S34, eS34, h⟩ := ob_some h
    have hX := hW
    refine hx_VA (i := 0) (As := [.ref (ad x1)]) (rest := []) C hW hS hT (s_P_body n x1 eS34) (m_P_body eS34) km_P_234 kv_P_body ke_P_body kn_P kw_P_body kd_P_body (hW.fx 0 rfl) rfl q_P rfl ⟨(Nat.le_of_ble_eq_true rfl), (Nat.le_of_ble_eq_true rfl)⟩ (MN.le (m_P_readDefinition_205 h) _) rfl hl.1 rfl (Nat.le_of_ble_eq_true rfl) d_P_readDefinition_202 (fun ad33 H locs hA hT hW hS => ?_)
    have hl : lv_has ls 2 [(0, .ref (ad33 0))] := by rw [hA 0 (hX.fx 0 rfl)]; exact lv_sub hl [0] rfl
    exact w_P_readDefinition_205 C n h hT hW hS (lv_sub hl [0] rfl)
set_option maxHeartbeats 4000000 in
set_option maxRecDepth 100000 in
theorem w_P_readDefinition_155 {ad0 ad : Nat → Nat} {S0 : HS} (C : CB p s m args c meth b_P_readDefinition "TwoLevelParser" 2 none D cA z ac) (n : Nat) {S' : HS} (x1 : Nat) {S : HS} {H : Heap} {locs : List Loc} {ls : Array Slot} (h : f_P_readDefinition_b155 n x1 S = some S') (hT : AC S0 ad0 S ad) (hW : HW D cA z ac E1 ad S H) (hS : va_S (zA z) s.heap H locs) (hl : lv_has ls 2 [(0, .ref (ad 0)), (1, .ref (ad x1))]) : GA p l e 11 s m args below meth c D cA z ac E1 ad0 S0 (fun _ => none) S' S H locs (F0 m 155 ls []) := by
  obtain ⟨⟨hx, hb, hml, hown, hts⟩, hK, hr, hlo⟩ := id C
  have hF : MN S S' := m_P_readDefinition_155 h
  unfold f_P_readDefinition_b155 at h
  refine lv_aload_n hx hb d_P_readDefinition_155 rfl (lv_at hl 0 rfl) ?_
  refine hc_so (i := 1) C hW hS (by decide) kf_P_218 d_P_readDefinition_156 ?_
  obtain ⟨S25, eS25, h⟩ := ob_some h
  refine hx_V (i := 0) (As := [.ref (ad 501)]) (rest := []) C hW hS (s_P_pass n 501 eS25) km_P_205 kv_P_pass ke_P_pass kn_P kw_P_pass kd_P_pass (hW.fx 0 rfl) rfl q_P rfl ⟨(Nat.le_of_ble_eq_true rfl), (Nat.le_of_ble_eq_true rfl)⟩ (hF.le _) rfl hl.1 rfl (Nat.le_of_ble_eq_true rfl) d_P_readDefinition_159 (fun H locs hW hS => ?_)
  have hkS25 : S25.2.2.2 = S.2.2.2 := k_P_pass eS25
  refine ac_w hkS25 ?_
  have hT := hT.k hkS25
  have hF := hF.kL hkS25
  refine lv_aload_n hx hb d_P_readDefinition_162 rfl (lv_at hl 1 rfl) ?_
  refine lv_aload_n hx hb d_P_readDefinition_163 rfl (lv_at hl 0 rfl) ?_
  refine hg_i C hW 0 7 (hW.fx 0 rfl) rfl q_P (by decide) rfl (lkF C kf_P_146) d_P_readDefinition_164 ?_
  refine lv_if_ne (tgt := 181) hx hb d_P_readDefinition_167 (by decide) (fun c167 => ?_) (fun c167 => ?_)
  · have h := ite_f c167 h
    refine lv_iconst (v := 0) hx hb d_P_readDefinition_181 (by decide) ?_
    exact w_P_readDefinition_182 C n x1 (0 : Int32) x1 h hT hW hS (lv_sub hl [0, 1] rfl)
  · have h := ite_t c167 h
    refine lv_aload_n hx hb d_P_readDefinition_170 rfl (lv_at hl 0 rfl) ?_
    refine lv_aload_n hx hb d_P_readDefinition_171 rfl (lv_at hl 1 rfl) ?_
    obtain ⟨g26, h⟩ := gd_some h
    refine hg_i C hW x1 0 g26.2 g26.1 q_D (by decide) rfl (lkN C kf_P_201) d_P_readDefinition_172 ?_
    obtain ⟨r28, S27, eS27, h⟩ := ob2_some h
    refine hx_V (i := 0) (As := [.int ((gF S25 x1 0))]) (rest := [.ref (ad x1)]) C hW hS (s_P_type n (gF S25 x1 0) eS27) km_P_225 kv_P_type ke_P_type kn_P kw_P_type kd_P_type (hW.fx 0 rfl) rfl q_P rfl ⟨(Nat.le_of_ble_eq_true rfl), (Nat.le_of_ble_eq_true rfl)⟩ (hF.le _) rfl hl.1 rfl (Nat.le_of_ble_eq_true rfl) d_P_readDefinition_175 (fun H locs hW hS => ?_)
    have hkS27 : S27.2.2.2 = S25.2.2.2 := k_P_type eS27
    refine ac_w hkS27 ?_
    have hT := hT.k hkS27
    have hF := hF.kL hkS27
    refine lv_goto (tgt := 182) hx hb d_P_readDefinition_178 (by decide) ?_
    exact w_P_readDefinition_182 C n x1 r28 x1 h hT hW hS (lv_sub hl [0, 1] rfl)
set_option maxHeartbeats 4000000 in
set_option maxRecDepth 100000 in
theorem w_P_readDefinition_127B {ad0 ad : Nat → Nat} {S0 : HS} (C : CB p s m args c meth b_P_readDefinition "TwoLevelParser" 2 none D cA z ac) (n : Nat) (kc : Nat → HS → Option HS) {S' : HS} (hk : ∀ (x1 : Nat) (S : HS) {ad : Nat → Nat} {H : Heap} {locs : List Loc} {ls : Array Slot}, kc x1 S = some S' → AC S0 ad0 S ad → HW D cA z ac E1 ad S H → va_S (zA z) s.heap H locs → lv_has ls 2 [(0, .ref (ad 0)), (1, .ref (ad x1))] → GA p l e 11 s m args below meth c D cA z ac E1 ad0 S0 (fun _ => none) S' S H locs (F0 m 127 ls [])) (hkm : ∀ (x1 : Nat) (S : HS), kc x1 S = some S' → MN S S') (x1 : Nat) {S : HS} {H : Heap} {locs : List Loc} {ls : Array Slot} (h : f_P_readDefinition_b127B n kc x1 S = some S') (hT : AC S0 ad0 S ad) (hW : HW D cA z ac E1 ad S H) (hS : va_S (zA z) s.heap H locs) (hl : lv_has ls 2 [(0, .ref (ad 0)), (1, .ref (ad x1))]) : GA p l e 11 s m args below meth c D cA z ac E1 ad0 S0 (fun _ => none) S' S H locs (F0 m 127 ls []) := by
  obtain ⟨⟨hx, hb, hml, hown, hts⟩, hK, hr, hlo⟩ := id C
  have hF : MN S S' := m_P_readDefinition_127B hkm h
  unfold f_P_readDefinition_b127B at h
  refine lv_aload_n hx hb d_P_readDefinition_127 rfl (lv_at hl 0 rfl) ?_
  refine hg_i C hW 0 7 (hW.fx 0 rfl) rfl q_P (by decide) rfl (lkF C kf_P_146) d_P_readDefinition_128 ?_
  refine lv_if_ne (tgt := 155) hx hb d_P_readDefinition_131 (by decide) (fun c131 => ?_) (fun c131 => ?_)
  · have h := ite_f c131 h
    exact w_P_readDefinition_155 C n x1 h hT hW hS (lv_sub hl [0, 1] rfl)
  · have h := ite_t c131 h
    refine lv_aload_n hx hb d_P_readDefinition_134 rfl (lv_at hl 0 rfl) ?_
    refine hg_r (j := 1) C hW 0 0 (hW.fx 0 rfl) rfl q_P (by decide) rfl (hW.fn (E := E1) (i := 0) (k := 0) rfl) (lkF C kf_P_112) d_P_readDefinition_135 ?_
    obtain ⟨j22, ej22, h⟩ := ob_some h
    refine hg_r (j := j22) C hW 1 3 (hW.fx 1 rfl) rfl q_X (by decide) rfl ej22 (lkN C kf_P_149) d_P_readDefinition_138 ?_
    refine hc_so (i := 1) C hW hS (by decide) kf_P_218 d_P_readDefinition_141 ?_
    obtain ⟨g23, h⟩ := gd_some h
    refine hj_eq (tgt := 155) C hW g23.1 g23.2 d_P_readDefinition_144 (by decide) (fun c144 => ?_) (fun c144 => ?_)
    · have h := ite_t c144 h
      exact w_P_readDefinition_155 C n x1 h hT hW hS (lv_sub hl [0, 1] rfl)
    · have h := ite_f c144 h
      refine lv_aload_n hx hb d_P_readDefinition_147 rfl (lv_at hl 0 rfl) ?_
      refine lv_aload_n hx hb d_P_readDefinition_148 rfl (lv_at hl 1 rfl) ?_
      obtain ⟨S24, eS24, h⟩ := ob_some h
      refine hx_V (i := 0) (As := [.ref (ad x1)]) (rest := []) C hW hS (s_P_readParameter n x1 eS24) km_P_221 kv_P_readParameter ke_P_readParameter kn_P kw_P_readParameter kd_P_readParameter (hW.fx 0 rfl) rfl q_P rfl ⟨(Nat.le_of_ble_eq_true rfl), (Nat.le_of_ble_eq_true rfl)⟩ (hF.le _) rfl hl.1 rfl (Nat.le_of_ble_eq_true rfl) d_P_readDefinition_149 (fun H locs hW hS => ?_)
      have hkS24 : S24.2.2.2 = S.2.2.2 := k_P_readParameter eS24
      refine ac_w hkS24 ?_
      have hT := hT.k hkS24
      have hF := hF.kL hkS24
      refine lv_goto (tgt := 127) hx hb d_P_readDefinition_152 (by decide) ?_
      exact hk _ _ h hT hW hS (lv_sub hl [0, 1] rfl)
set_option maxHeartbeats 4000000 in
set_option maxRecDepth 100000 in
theorem w_P_readDefinition_127 {ad0 : Nat → Nat} {S0 : HS} (C : CB p s m args c meth b_P_readDefinition "TwoLevelParser" 2 none D cA z ac) (n : Nat) (k : Nat) {S' : HS} : ∀ (x1 : Nat) {S : HS} {ad : Nat → Nat} {H : Heap} {locs : List Loc} {ls : Array Slot}, f_P_readDefinition_b127 n k x1 S = some S' → AC S0 ad0 S ad → HW D cA z ac E1 ad S H → va_S (zA z) s.heap H locs → lv_has ls 2 [(0, .ref (ad 0)), (1, .ref (ad x1))] → GA p l e 11 s m args below meth c D cA z ac E1 ad0 S0 (fun _ => none) S' S H locs (F0 m 127 ls []) := by
  induction k with
  | zero => intro x1 S ad H locs ls h; cases h
  | succ k ih => intro x1 S ad H locs ls h hT hW hS hl; exact w_P_readDefinition_127B C n (f_P_readDefinition_b127 n k) (fun x1 S ad H locs ls h hT hW hS hl => ih x1 h hT hW hS hl) (fun x1 S h => m_P_readDefinition_127 k h) x1 h hT hW hS hl
set_option maxHeartbeats 4000000 in
set_option maxRecDepth 100000 in
theorem w_P_readDefinition_86 {ad0 ad : Nat → Nat} {S0 : HS} (C : CB p s m args c meth b_P_readDefinition "TwoLevelParser" 2 none D cA z ac) (n : Nat) {S' : HS} (x1 : Nat) {S : HS} {H : Heap} {locs : List Loc} {ls : Array Slot} (h : f_P_readDefinition_b86 n x1 S = some S') (hT : AC S0 ad0 S ad) (hW : HW D cA z ac E1 ad S H) (hS : va_S (zA z) s.heap H locs) (hl : lv_has ls 2 [(0, .ref (ad 0)), (1, .ref (ad x1))]) : GA p l e 11 s m args below meth c D cA z ac E1 ad0 S0 (fun _ => none) S' S H locs (F0 m 86 ls []) := by
  obtain ⟨⟨hx, hb, hml, hown, hts⟩, hK, hr, hlo⟩ := id C
  have hF : MN S S' := m_P_readDefinition_86 h
  unfold f_P_readDefinition_b86 at h
  refine lv_aload_n hx hb d_P_readDefinition_86 rfl (lv_at hl 1 rfl) ?_
  refine lv_aload_n hx hb d_P_readDefinition_87 rfl (lv_at hl 0 rfl) ?_
  refine hg_r (j := 1) C hW 0 0 (hW.fx 0 rfl) rfl q_P (by decide) rfl (hW.fn (E := E1) (i := 0) (k := 0) rfl) (lkF C kf_P_112) d_P_readDefinition_88 ?_
  refine hg_l C hW 1 5 (hW.fx 1 rfl) rfl q_X (by decide) rfl (lkN C kf_P_165) d_P_readDefinition_91 ?_
  obtain ⟨g13, h⟩ := gd_some h
  obtain ⟨S14, eS14, h⟩ := lt_some h
  refine hp_l C hW hS x1 4 g13.2 g13.1 q_D (by decide) rfl rfl rfl (lkN C kf_P_194) eS14 d_P_readDefinition_94 (fun H locs hW hS => ?_)
  have hkS14 : S14.2.2.2 = S.2.2.2 := by rw [eS14]; rfl
  refine ac_w hkS14 ?_
  have hT := hT.k hkS14
  have hF := hF.kL hkS14
  refine lv_aload_n hx hb d_P_readDefinition_97 rfl (lv_at hl 1 rfl) ?_
  refine lv_aload_n hx hb d_P_readDefinition_98 rfl (lv_at hl 0 rfl) ?_
  refine hg_r (j := 1) C hW 0 0 (hW.fx 0 rfl) rfl q_P (by decide) rfl (hW.fn (E := E1) (i := 0) (k := 0) rfl) (lkF C kf_P_112) d_P_readDefinition_99 ?_
  refine hg_i C hW 1 4 (hW.fx 1 rfl) rfl q_X (by decide) rfl (lkN C kf_P_161) d_P_readDefinition_102 ?_
  obtain ⟨g15, h⟩ := gd_some h
  obtain ⟨S16, eS16, h⟩ := lt_some h
  refine hp_i C hW hS x1 5 g15.2 g15.1 q_D (by decide) rfl rfl rfl (lkN C kf_P_216) eS16 d_P_readDefinition_105 (fun H locs hW hS => ?_)
  have hkS16 : S16.2.2.2 = S14.2.2.2 := by rw [eS16]; rfl
  refine ac_w hkS16 ?_
  have hT := hT.k hkS16
  have hF := hF.kL hkS16
  refine lv_aload_n hx hb d_P_readDefinition_108 rfl (lv_at hl 0 rfl) ?_
  refine hc_so (i := 2) C hW hS (by decide) kf_P_162 d_P_readDefinition_109 ?_
  obtain ⟨S17, eS17, h⟩ := ob_some h
  refine hx_V (i := 0) (As := [.ref (ad 502)]) (rest := []) C hW hS (s_P_pass n 502 eS17) km_P_205 kv_P_pass ke_P_pass kn_P kw_P_pass kd_P_pass (hW.fx 0 rfl) rfl q_P rfl ⟨(Nat.le_of_ble_eq_true rfl), (Nat.le_of_ble_eq_true rfl)⟩ (hF.le _) rfl hl.1 rfl (Nat.le_of_ble_eq_true rfl) d_P_readDefinition_112 (fun H locs hW hS => ?_)
  have hkS17 : S17.2.2.2 = S16.2.2.2 := k_P_pass eS17
  refine ac_w hkS17 ?_
  have hT := hT.k hkS17
  have hF := hF.kL hkS17
  refine lv_aload_n hx hb d_P_readDefinition_115 rfl (lv_at hl 0 rfl) ?_
  refine hc_so (i := 0) C hW hS (by decide) kf_P_188 d_P_readDefinition_116 ?_
  obtain ⟨S18, eS18, h⟩ := ob_some h
  refine hx_V (i := 0) (As := [.ref (ad 500)]) (rest := []) C hW hS (s_P_pass n 500 eS18) km_P_205 kv_P_pass ke_P_pass kn_P kw_P_pass kd_P_pass (hW.fx 0 rfl) rfl q_P rfl ⟨(Nat.le_of_ble_eq_true rfl), (Nat.le_of_ble_eq_true rfl)⟩ (hF.le _) rfl hl.1 rfl (Nat.le_of_ble_eq_true rfl) d_P_readDefinition_119 (fun H locs hW hS => ?_)
  have hkS18 : S18.2.2.2 = S17.2.2.2 := k_P_pass eS18
  refine ac_w hkS18 ?_
  have hT := hT.k hkS18
  have hF := hF.kL hkS18
  refine lv_aload_n hx hb d_P_readDefinition_122 rfl (lv_at hl 1 rfl) ?_
  refine lv_iconst (v := 0) hx hb d_P_readDefinition_123 (by decide) ?_
  obtain ⟨g19, h⟩ := gd_some h
  obtain ⟨S20, eS20, h⟩ := lt_some h
  refine hp_i C hW hS x1 2 g19.2 g19.1 q_D (by decide) rfl rfl rfl (lkN C kf_P_217) eS20 d_P_readDefinition_124 (fun H locs hW hS => ?_)
  have hkS20 : S20.2.2.2 = S18.2.2.2 := by rw [eS20]; rfl
  refine ac_w hkS20 ?_
  have hT := hT.k hkS20
  have hF := hF.kL hkS20
  exact w_P_readDefinition_127 C n n x1 h hT hW hS (lv_sub hl [0, 1] rfl)
set_option maxHeartbeats 4000000 in
set_option maxRecDepth 100000 in
theorem w_P_readDefinition_82 {ad0 ad : Nat → Nat} {S0 : HS} (C : CB p s m args c meth b_P_readDefinition "TwoLevelParser" 2 none D cA z ac) (n : Nat) {S' : HS} (x1 : Nat) {S : HS} {H : Heap} {locs : List Loc} {ls : Array Slot} (h : f_P_readDefinition_b82 n x1 S = some S') (hT : AC S0 ad0 S ad) (hW : HW D cA z ac E1 ad S H) (hS : va_S (zA z) s.heap H locs) (hl : lv_has ls 2 [(0, .ref (ad 0)), (1, .ref (ad x1))]) : GA p l e 11 s m args below meth c D cA z ac E1 ad0 S0 (fun _ => none) S' S H locs (F0 m 82 ls []) := by
  obtain ⟨⟨hx, hb, hml, hown, hts⟩, hK, hr, hlo⟩ := id C
  have hF : MN S S' := m_P_readDefinition_82 h
  unfold f_P_readDefinition_b82 at h
  refine lv_aload_n hx hb d_P_readDefinition_82 rfl (lv_at hl 0 rfl) ?_
  obtain ⟨S21, eS21, h⟩ := ob_some h
  refine hx_V (i := 0) (As := []) (rest := []) C hW hS (s_P_refuse eS21) km_P_169 kv_P_refuse ke_P_refuse kn_P kw_P_refuse kd_P_refuse (hW.fx 0 rfl) rfl q_P rfl ⟨(Nat.le_of_ble_eq_true rfl), (Nat.le_of_ble_eq_true rfl)⟩ (hF.le _) rfl hl.1 rfl (Nat.le_of_ble_eq_true rfl) d_P_readDefinition_83 (fun H locs hW hS => ?_)
  have hkS21 : S21.2.2.2 = S.2.2.2 := k_P_refuse eS21
  refine ac_w hkS21 ?_
  have hT := hT.k hkS21
  have hF := hF.kL hkS21
  exact w_P_readDefinition_86 C n x1 h hT hW hS (lv_sub hl [0, 1] rfl)
set_option maxHeartbeats 4000000 in
set_option maxRecDepth 100000 in
theorem w_P_readDefinition_47 {ad0 ad : Nat → Nat} {S0 : HS} (C : CB p s m args c meth b_P_readDefinition "TwoLevelParser" 2 none D cA z ac) (n : Nat) {S' : HS} (x1 : Nat) {S : HS} {H : Heap} {locs : List Loc} {ls : Array Slot} (h : f_P_readDefinition_b47 n x1 S = some S') (hT : AC S0 ad0 S ad) (hW : HW D cA z ac E1 ad S H) (hS : va_S (zA z) s.heap H locs) (hl : lv_has ls 2 [(0, .ref (ad 0)), (1, .ref (ad x1))]) : GA p l e 11 s m args below meth c D cA z ac E1 ad0 S0 (fun _ => none) S' S H locs (F0 m 47 ls []) := by
  obtain ⟨⟨hx, hb, hml, hown, hts⟩, hK, hr, hlo⟩ := id C
  have hF : MN S S' := m_P_readDefinition_47 h
  unfold f_P_readDefinition_b47 at h
  refine lv_aload_n hx hb d_P_readDefinition_47 rfl (lv_at hl 0 rfl) ?_
  refine hc_so (i := 2) C hW hS (by decide) kf_P_162 d_P_readDefinition_48 ?_
  obtain ⟨S10, eS10, h⟩ := ob_some h
  refine hx_V (i := 0) (As := [.ref (ad 502)]) (rest := []) C hW hS (s_P_pass n 502 eS10) km_P_205 kv_P_pass ke_P_pass kn_P kw_P_pass kd_P_pass (hW.fx 0 rfl) rfl q_P rfl ⟨(Nat.le_of_ble_eq_true rfl), (Nat.le_of_ble_eq_true rfl)⟩ (hF.le _) rfl hl.1 rfl (Nat.le_of_ble_eq_true rfl) d_P_readDefinition_51 (fun H locs hW hS => ?_)
  have hkS10 : S10.2.2.2 = S.2.2.2 := k_P_pass eS10
  refine ac_w hkS10 ?_
  have hT := hT.k hkS10
  have hF := hF.kL hkS10
  refine lv_aload_n hx hb d_P_readDefinition_54 rfl (lv_at hl 0 rfl) ?_
  refine hg_i C hW 0 7 (hW.fx 0 rfl) rfl q_P (by decide) rfl (lkF C kf_P_146) d_P_readDefinition_55 ?_
  refine lv_if_ne (tgt := 86) hx hb d_P_readDefinition_58 (by decide) (fun c58 => ?_) (fun c58 => ?_)
  · have h := ite_f c58 h
    exact w_P_readDefinition_86 C n x1 h hT hW hS (lv_sub hl [0, 1] rfl)
  · have h := ite_t c58 h
    refine lv_aload_n hx hb d_P_readDefinition_61 rfl (lv_at hl 0 rfl) ?_
    obtain ⟨r11, er11, h⟩ := ob_some h
    refine hx_V (i := 0) (As := []) (rest := []) C hW hS (s_P_isName n er11) km_P_209 kv_P_isName ke_P_isName kn_P kw_P_isName kd_P_isName (hW.fx 0 rfl) rfl q_P rfl ⟨(Nat.le_of_ble_eq_true rfl), (Nat.le_of_ble_eq_true rfl)⟩ (hF.le _) rfl hl.1 rfl (Nat.le_of_ble_eq_true rfl) d_P_readDefinition_62 (fun H locs hW hS => ?_)
    refine lv_if_eq (tgt := 82) hx hb d_P_readDefinition_65 (by decide) (fun c65 => ?_) (fun c65 => ?_)
    · have h := ite_t c65 h
      exact w_P_readDefinition_82 C n x1 h hT hW hS (lv_sub hl [0, 1] rfl)
    · have h := ite_f c65 h
      refine lv_aload_n hx hb d_P_readDefinition_68 rfl (lv_at hl 0 rfl) ?_
      refine lv_aload_n hx hb d_P_readDefinition_69 rfl (lv_at hl 0 rfl) ?_
      refine hg_r (j := 1) C hW 0 0 (hW.fx 0 rfl) rfl q_P (by decide) rfl (hW.fn (E := E1) (i := 0) (k := 0) rfl) (lkF C kf_P_112) d_P_readDefinition_70 ?_
      refine hg_l C hW 1 5 (hW.fx 1 rfl) rfl q_X (by decide) rfl (lkN C kf_P_165) d_P_readDefinition_73 ?_
      obtain ⟨r12, er12, h⟩ := ob_some h
      refine hx_V (i := 0) (As := [.long ((gL S10 1 5))]) (rest := []) C hW hS (s_P_isDefined n (gL S10 1 5) er12) km_P_213 kv_P_isDefined ke_P_isDefined kn_P kw_P_isDefined kd_P_isDefined (hW.fx 0 rfl) rfl q_P rfl ⟨(Nat.le_of_ble_eq_true rfl), (Nat.le_of_ble_eq_true rfl)⟩ (hF.le _) rfl hl.1 rfl (Nat.le_of_ble_eq_true rfl) d_P_readDefinition_76 (fun H locs hW hS => ?_)
      refine lv_if_eq (tgt := 86) hx hb d_P_readDefinition_79 (by decide) (fun c79 => ?_) (fun c79 => ?_)
      · have h := ite_t c79 h
        exact w_P_readDefinition_86 C n x1 h hT hW hS (lv_sub hl [0, 1] rfl)
      · have h := ite_f c79 h
        exact w_P_readDefinition_82 C n x1 h hT hW hS (lv_sub hl [0, 1] rfl)
set_option maxHeartbeats 4000000 in
set_option maxRecDepth 100000 in
theorem s_P_readDefinition (n : Nat) {ad : Nat → Nat} {S : HS} {S' : HS} (h : f_P_readDefinition n S = some S') : Met l y_P_readDefinition (.code y_P_readDefinition b_P_readDefinition 2 none :: lw_g) (rmD 11 (gC S' - gC S) (gN S' - gN S)) (PcH D cA z ac E1 ad [.ref (ad 0)] S) (QA D cA z ac E1 ad S (fun _ => none) S') (gC S' - gC S) (gN S' - gN S) (zA z) := by
  refine Met.ofHA (own := "TwoLevelParser") (by decide) rfl (Nat.le_of_ble_eq_true rfl) ?_
  intro p e s m args below meth c H ls C hnm hW hS hl
  have hl : lv_has ls 2 [(0, .ref (ad 0))] := hl
  obtain ⟨⟨hx, hb, hml, hown, hts⟩, hK, hr, hlo⟩ := id C
  have hF : MN S S' := m_P_readDefinition h
  have hT : AC S ad S ad := AC.rf
  unfold f_P_readDefinition at h
  refine lv_aload_n hx hb d_P_readDefinition_0 rfl (lv_at hl 0 rfl) ?_
  refine hg_r (j := 1) C hW 0 0 (hW.fx 0 rfl) rfl q_P (by decide) rfl (hW.fn (E := E1) (i := 0) (k := 0) rfl) (lkF C kf_P_112) d_P_readDefinition_1 ?_
  obtain ⟨S1, eS1, h⟩ := ob_some h
  refine hx_V (i := 1) (As := []) (rest := []) C hW hS (s_X_next n eS1) km_P_172 kv_X_next ke_X_next kn_X kw_X_next kd_X_next (hW.fx 1 rfl) rfl q_X rfl ⟨(Nat.le_of_ble_eq_true rfl), (Nat.le_of_ble_eq_true rfl)⟩ (hF.le _) rfl hl.1 rfl (Nat.le_of_ble_eq_true rfl) d_P_readDefinition_4 (fun H locs hW hS => ?_)
  have hkS1 : S1.2.2.2 = S.2.2.2 := k_X_next eS1
  refine ac_w hkS1 ?_
  have hT := hT.k hkS1
  have hF := hF.kL hkS1
  refine lv_aload_n hx hb d_P_readDefinition_7 rfl (lv_at hl 0 rfl) ?_
  refine hg_r (j := 4) C hW 0 3 (hW.fx 0 rfl) rfl q_P (by decide) rfl (hW.fn (E := E1) (i := 0) (k := 3) rfl) (lkF C kf_P_124) d_P_readDefinition_8 ?_
  refine lv_aload_n hx hb d_P_readDefinition_11 rfl (lv_at hl 0 rfl) ?_
  refine hg_i C hW 0 4 (hW.fx 0 rfl) rfl q_P (by decide) rfl (lkF C kf_P_182) d_P_readDefinition_12 ?_
  obtain ⟨g2, h⟩ := gd_some h
  refine ha_r (t := 4) (ck := 14) (j := (6 + 3 * (gF S1 0 4).toNatClampNeg)) C hW 4 (hW.fx 4 rfl) rfl (by decide) rfl rfl g2 (hW.fn (E := E1) (finA (ha_lt g2))) d_P_readDefinition_15 ?_
  refine lv_astore_n (lv' := [(1, .ref (ad ((6 + 3 * (gF S1 0 4).toNatClampNeg)))), (0, .ref (ad 0))]) hx hb d_P_readDefinition_16 rfl hl (by decide) rfl (fun ls hl => ?_)
  refine lv_aload_n hx hb d_P_readDefinition_17 rfl (lv_at hl 0 rfl) ?_
  refine lv_aload_n hx hb d_P_readDefinition_18 rfl (lv_at hl 1 rfl) ?_
  refine hc_s (i := 0) C hW rfl (by decide) rfl rfl d_P_readDefinition_19 ?_
  obtain ⟨r3, er3, h⟩ := ob_some h
  refine hx_V (i := 0) (As := [.ref (ad 300)]) (rest := [.ref (ad ((6 + 3 * (gF S1 0 4).toNatClampNeg)))]) C hW hS (s_P_isWord n 300 er3) km_P_197 kv_P_isWord ke_P_isWord kn_P kw_P_isWord kd_P_isWord (hW.fx 0 rfl) rfl q_P rfl ⟨(Nat.le_of_ble_eq_true rfl), (Nat.le_of_ble_eq_true rfl)⟩ (hF.le _) rfl hl.1 rfl (Nat.le_of_ble_eq_true rfl) d_P_readDefinition_21 (fun H locs hW hS => ?_)
  obtain ⟨g4, h⟩ := gd_some h
  obtain ⟨g6, h⟩ := gd_some h
  obtain ⟨S5, eS5, h⟩ := lt_some h
  refine hp_z C hW hS (6 + 3 * (gF S1 0 4).toNatClampNeg) 0 g4.2 g4.1 q_D (by decide) rfl rfl rfl (lkN C kf_P_201) g6 eS5 d_P_readDefinition_24 (fun H locs hW hS => ?_)
  have hkS5 : S5.2.2.2 = S1.2.2.2 := by rw [eS5]; rfl
  refine ac_w hkS5 ?_
  have hT := hT.k hkS5
  have hF := hF.kL hkS5
  refine lv_aload_n hx hb d_P_readDefinition_27 rfl (lv_at hl 0 rfl) ?_
  obtain ⟨g7, h⟩ := gd_some h
  refine hg_i C hW (6 + 3 * (gF S1 0 4).toNatClampNeg) 0 g7.2 g7.1 q_D (by decide) rfl (lkN C kf_P_201) d_P_readDefinition_28 ?_
  refine lv_if_ne (tgt := 47) hx hb d_P_readDefinition_31 (by decide) (fun c31 => ?_) (fun c31 => ?_)
  · have h := ite_f c31 h
    exact w_P_readDefinition_47 C n (6 + 3 * (gF S1 0 4).toNatClampNeg) h hT hW hS (lv_sub hl [1, 0] rfl)
  · have h := ite_t c31 h
    refine lv_aload_n hx hb d_P_readDefinition_34 rfl (lv_at hl 1 rfl) ?_
    refine hc_s (i := 1) C hW rfl (by decide) rfl rfl d_P_readDefinition_35 ?_
    obtain ⟨r8, er8, h⟩ := ob_some h
    refine hx_V (i := 0) (As := [.ref (ad 301)]) (rest := []) C hW hS (s_P_isWord n 301 er8) km_P_197 kv_P_isWord ke_P_isWord kn_P kw_P_isWord kd_P_isWord (hW.fx 0 rfl) rfl q_P rfl ⟨(Nat.le_of_ble_eq_true rfl), (Nat.le_of_ble_eq_true rfl)⟩ (hF.le _) rfl hl.1 rfl (Nat.le_of_ble_eq_true rfl) d_P_readDefinition_37 (fun H locs hW hS => ?_)
    refine lv_if_ne (tgt := 47) hx hb d_P_readDefinition_40 (by decide) (fun c40 => ?_) (fun c40 => ?_)
    · have h := ite_f c40 h
      exact w_P_readDefinition_47 C n (6 + 3 * (gF S1 0 4).toNatClampNeg) h hT hW hS (lv_sub hl [1, 0] rfl)
    · have h := ite_t c40 h
      refine lv_aload_n hx hb d_P_readDefinition_43 rfl (lv_at hl 1 rfl) ?_
      obtain ⟨S9, eS9, h⟩ := ob_some h
      refine hx_V (i := 0) (As := []) (rest := []) C hW hS (s_P_refuse eS9) km_P_169 kv_P_refuse ke_P_refuse kn_P kw_P_refuse kd_P_refuse (hW.fx 0 rfl) rfl q_P rfl ⟨(Nat.le_of_ble_eq_true rfl), (Nat.le_of_ble_eq_true rfl)⟩ (hF.le _) rfl hl.1 rfl (Nat.le_of_ble_eq_true rfl) d_P_readDefinition_44 (fun H locs hW hS => ?_)
      have hkS9 : S9.2.2.2 = S5.2.2.2 := k_P_refuse eS9
      refine ac_w hkS9 ?_
      have hT := hT.k hkS9
      have hF := hF.kL hkS9
      exact w_P_readDefinition_47 C n (6 + 3 * (gF S1 0 4).toNatClampNeg) h hT hW hS (lv_sub hl [1, 0] rfl)
end WA
def f_P_read_b69 (n : Nat) (kc : HS → Option (Int32 × HS)) (S : HS) : Option (Int32 × HS) :=
  ob (f_P_refuse S) fun S14 =>
  kc S14
def f_P_read_b80 (n : Nat) (kc : HS → Option (Int32 × HS)) (S : HS) : Option (Int32 × HS) :=
  kc S
def f_P_read_b83 (n : Nat) (S : HS) : Option (Int32 × HS) :=
  (if (gF S 0 7) ≤ 0 then
  some ((gF S 0 7), S)
  else
  lt (sF S 0 2 (0 : Int32)) fun S12 =>
  lt (sF S12 0 4 (0 : Int32)) fun S13 =>
  some ((gF S13 0 7), S13))
def f_P_read_b27B (n : Nat) (kc : HS → Option (Int32 × HS)) (S : HS) : Option (Int32 × HS) :=
  (if (gF S 0 7) = 0 then
  ob (gX S 1 3) fun j6 =>
  gd (isSo j6 ∧ isSo 504) (if j6 = 504 then
  f_P_read_b83 n S
  else
  ob (gX S 1 3) fun j8 =>
  gd (isSo j8 ∧ isSo 500) (if j8 = 500 then
  (if (gF S 0 4) = (64 : Int32) then
  f_P_read_b69 n kc S
  else
  ob (f_P_readDefinition n S) fun S11 =>
  f_P_read_b80 n kc S11)
  else
  f_P_read_b69 n kc S))
  else
  f_P_read_b83 n S)
def f_P_read_b27 (n : Nat) (k : Nat) : HS → Option (Int32 × HS) := lpF (fun _ => none) (f_P_read_b27B n) k
def f_P_read (n : Nat) (S : HS) : Option (Int32 × HS) :=
  lt (sF S 0 7 (0 : Int32)) fun S1 =>
  lt (sF S1 0 8 (-1 : Int32)) fun S2 =>
  lt (sF S2 0 2 (0 : Int32)) fun S3 =>
  lt (sF S3 0 4 (0 : Int32)) fun S4 =>
  ob (f_X_begin n S4) fun S5 =>
  f_P_read_b27 n n S5
set_option maxHeartbeats 4000000 in
set_option maxRecDepth 100000 in
theorem m_P_read_69 {n : Nat} {kc : HS → Option (Int32 × HS)} {r : Int32} {S' : HS} (hkm : ∀ (S : HS), kc S = some (r, S') → MN S S') {S : HS} (h : f_P_read_b69 n kc S = some (r, S')) : MN S S' := by
  unfold f_P_read_b69 at h
  have hm : MN S S := MN.rf
  obtain ⟨S14, eS14, h⟩ := ob_some h
  have hm := hm.kR (show S14.2.2.2 = S.2.2.2 from k_P_refuse eS14)
  exact hm.tr (hkm _ h)
set_option maxHeartbeats 4000000 in
set_option maxRecDepth 100000 in
theorem m_P_read_80 {n : Nat} {kc : HS → Option (Int32 × HS)} {r : Int32} {S' : HS} (hkm : ∀ (S : HS), kc S = some (r, S') → MN S S') {S : HS} (h : f_P_read_b80 n kc S = some (r, S')) : MN S S' := by
  unfold f_P_read_b80 at h
  have hm : MN S S := MN.rf
  exact hm.tr (hkm _ h)
set_option maxHeartbeats 4000000 in
set_option maxRecDepth 100000 in
theorem m_P_read_83 {n : Nat} {r : Int32} {S' : HS} {S : HS} (h : f_P_read_b83 n S = some (r, S')) : MN S S' := by
  unfold f_P_read_b83 at h
  have hm : MN S S := MN.rf
  rcases ite_or h with ⟨c87, h⟩ | ⟨c87, h⟩
  · obtain ⟨hr1, hr2⟩ := Prod.mk.inj (Option.some.inj h)
    subst hr1
    subst hr2
    exact hm
  · obtain ⟨S12, eS12, h⟩ := lt_some h
    have hm := hm.kR (show S12.2.2.2 = S.2.2.2 from by rw [eS12]; rfl)
    obtain ⟨S13, eS13, h⟩ := lt_some h
    have hm := hm.kR (show S13.2.2.2 = S12.2.2.2 from by rw [eS13]; rfl)
    obtain ⟨hr1, hr2⟩ := Prod.mk.inj (Option.some.inj h)
    subst hr1
    subst hr2
    exact hm
set_option maxHeartbeats 4000000 in
set_option maxRecDepth 100000 in
theorem m_P_read_27B {n : Nat} {kc : HS → Option (Int32 × HS)} {r : Int32} {S' : HS} (hkm : ∀ (S : HS), kc S = some (r, S') → MN S S') {S : HS} (h : f_P_read_b27B n kc S = some (r, S')) : MN S S' := by
  unfold f_P_read_b27B at h
  have hm : MN S S := MN.rf
  rcases ite_or h with ⟨c31, h⟩ | ⟨c31, h⟩
  · obtain ⟨j6, ej6, h⟩ := ob_some h
    obtain ⟨g7, h⟩ := gd_some h
    rcases ite_or h with ⟨c44, h⟩ | ⟨c44, h⟩
    · exact hm.tr (m_P_read_83 h)
    · obtain ⟨j8, ej8, h⟩ := ob_some h
      obtain ⟨g9, h⟩ := gd_some h
      rcases ite_or h with ⟨c57, h⟩ | ⟨c57, h⟩
      · rcases ite_or h with ⟨c66, h⟩ | ⟨c66, h⟩
        · exact hm.tr (m_P_read_69 hkm h)
        · obtain ⟨S11, eS11, h⟩ := ob_some h
          have hm := hm.tr (m_P_readDefinition eS11)
          exact hm.tr (m_P_read_80 hkm h)
      · exact hm.tr (m_P_read_69 hkm h)
  · exact hm.tr (m_P_read_83 h)
set_option maxHeartbeats 4000000 in
set_option maxRecDepth 100000 in
theorem m_P_read_27 {n : Nat} (k : Nat) {r : Int32} {S' : HS} : ∀ {S : HS}, f_P_read_b27 n k S = some (r, S') → MN S S' := by
  induction k with
  | zero => intro S h; cases h
  | succ k ih => intro S h; exact m_P_read_27B (n := n) (kc := f_P_read_b27 n k) (fun S h => ih h) h
set_option maxHeartbeats 4000000 in
set_option maxRecDepth 100000 in
theorem m_P_read {n : Nat} {S : HS} {r : Int32} {S' : HS} (h : f_P_read n S = some (r, S')) : MN S S' := by
  unfold f_P_read at h
  have hm : MN S S := MN.rf
  obtain ⟨S1, eS1, h⟩ := lt_some h
  have hm := hm.kR (show S1.2.2.2 = S.2.2.2 from by rw [eS1]; rfl)
  obtain ⟨S2, eS2, h⟩ := lt_some h
  have hm := hm.kR (show S2.2.2.2 = S1.2.2.2 from by rw [eS2]; rfl)
  obtain ⟨S3, eS3, h⟩ := lt_some h
  have hm := hm.kR (show S3.2.2.2 = S2.2.2.2 from by rw [eS3]; rfl)
  obtain ⟨S4, eS4, h⟩ := lt_some h
  have hm := hm.kR (show S4.2.2.2 = S3.2.2.2 from by rw [eS4]; rfl)
  obtain ⟨S5, eS5, h⟩ := ob_some h
  have hm := hm.kR (show S5.2.2.2 = S4.2.2.2 from k_X_begin eS5)
  exact hm.tr (m_P_read_27 n h)
section WA
variable {p : Program} {l : Launch} {e : Env} {s : State} {m : MethodId} {args : Array Value} {below : List Frame} {meth : Method} {c : Code} {D : va_G} {cA : Nat → ClassId} {z : Nat} {ac : Nat → Nat}
set_option maxHeartbeats 4000000 in
set_option maxRecDepth 100000 in
theorem w_P_read_69 {ad0 ad : Nat → Nat} {S0 : HS} (C : CB p s m args c meth b_P_read "TwoLevelParser" 1 (some .int) D cA z ac) (n : Nat) (kc : HS → Option (Int32 × HS)) {r : Int32} {S' : HS} (hk : ∀ (S : HS) {ad : Nat → Nat} {H : Heap} {locs : List Loc} {ls : Array Slot}, kc S = some (r, S') → AC S0 ad0 S ad → HW D cA z ac E1 ad S H → va_S (zA z) s.heap H locs → lv_has ls 1 [(0, .ref (ad 0))] → GA p l e 12 s m args below meth c D cA z ac E1 ad0 S0 (fun _ => some (.int r)) S' S H locs (F0 m 27 ls [])) (hkm : ∀ (S : HS), kc S = some (r, S') → MN S S') {S : HS} {H : Heap} {locs : List Loc} {ls : Array Slot} (h : f_P_read_b69 n kc S = some (r, S')) (hT : AC S0 ad0 S ad) (hW : HW D cA z ac E1 ad S H) (hS : va_S (zA z) s.heap H locs) (hl : lv_has ls 1 [(0, .ref (ad 0))]) : GA p l e 12 s m args below meth c D cA z ac E1 ad0 S0 (fun _ => some (.int r)) S' S H locs (F0 m 69 ls []) := by
  obtain ⟨⟨hx, hb, hml, hown, hts⟩, hK, hr, hlo⟩ := id C
  have hF : MN S S' := m_P_read_69 hkm h
  unfold f_P_read_b69 at h
  refine lv_aload_n hx hb d_P_read_69 rfl (lv_at hl 0 rfl) ?_
  obtain ⟨S14, eS14, h⟩ := ob_some h
  refine hx_V (i := 0) (As := []) (rest := []) C hW hS (s_P_refuse eS14) km_P_169 kv_P_refuse ke_P_refuse kn_P kw_P_refuse kd_P_refuse (hW.fx 0 rfl) rfl q_P rfl ⟨(Nat.le_of_ble_eq_true rfl), (Nat.le_of_ble_eq_true rfl)⟩ (hF.le _) rfl hl.1 rfl (Nat.le_of_ble_eq_true rfl) d_P_read_70 (fun H locs hW hS => ?_)
  have hkS14 : S14.2.2.2 = S.2.2.2 := k_P_refuse eS14
  refine ac_w hkS14 ?_
  have hT := hT.k hkS14
  have hF := hF.kL hkS14
  refine lv_goto (tgt := 27) hx hb d_P_read_73 (by decide) ?_
  exact hk _ h hT hW hS (lv_sub hl [0] rfl)
set_option maxHeartbeats 4000000 in
set_option maxRecDepth 100000 in
theorem w_P_read_80 {ad0 ad : Nat → Nat} {S0 : HS} (C : CB p s m args c meth b_P_read "TwoLevelParser" 1 (some .int) D cA z ac) (n : Nat) (kc : HS → Option (Int32 × HS)) {r : Int32} {S' : HS} (hk : ∀ (S : HS) {ad : Nat → Nat} {H : Heap} {locs : List Loc} {ls : Array Slot}, kc S = some (r, S') → AC S0 ad0 S ad → HW D cA z ac E1 ad S H → va_S (zA z) s.heap H locs → lv_has ls 1 [(0, .ref (ad 0))] → GA p l e 12 s m args below meth c D cA z ac E1 ad0 S0 (fun _ => some (.int r)) S' S H locs (F0 m 27 ls [])) (hkm : ∀ (S : HS), kc S = some (r, S') → MN S S') {S : HS} {H : Heap} {locs : List Loc} {ls : Array Slot} (h : f_P_read_b80 n kc S = some (r, S')) (hT : AC S0 ad0 S ad) (hW : HW D cA z ac E1 ad S H) (hS : va_S (zA z) s.heap H locs) (hl : lv_has ls 1 [(0, .ref (ad 0))]) : GA p l e 12 s m args below meth c D cA z ac E1 ad0 S0 (fun _ => some (.int r)) S' S H locs (F0 m 80 ls []) := by
  obtain ⟨⟨hx, hb, hml, hown, hts⟩, hK, hr, hlo⟩ := id C
  have hF : MN S S' := m_P_read_80 hkm h
  unfold f_P_read_b80 at h
  refine lv_goto (tgt := 27) hx hb d_P_read_80 (by decide) ?_
  exact hk _ h hT hW hS (lv_sub hl [0] rfl)
set_option maxHeartbeats 4000000 in
set_option maxRecDepth 100000 in
theorem w_P_read_83 {ad0 ad : Nat → Nat} {S0 : HS} (C : CB p s m args c meth b_P_read "TwoLevelParser" 1 (some .int) D cA z ac) (n : Nat) {r : Int32} {S' : HS} {S : HS} {H : Heap} {locs : List Loc} {ls : Array Slot} (h : f_P_read_b83 n S = some (r, S')) (hT : AC S0 ad0 S ad) (hW : HW D cA z ac E1 ad S H) (hS : va_S (zA z) s.heap H locs) (hl : lv_has ls 1 [(0, .ref (ad 0))]) : GA p l e 12 s m args below meth c D cA z ac E1 ad0 S0 (fun _ => some (.int r)) S' S H locs (F0 m 83 ls []) := by
  obtain ⟨⟨hx, hb, hml, hown, hts⟩, hK, hr, hlo⟩ := id C
  have hF : MN S S' := m_P_read_83 h
  unfold f_P_read_b83 at h
  refine lv_aload_n hx hb d_P_read_83 rfl (lv_at hl 0 rfl) ?_
  refine hg_i C hW 0 7 (hW.fx 0 rfl) rfl q_P (by decide) rfl (lkF C kf_P_146) d_P_read_84 ?_
  refine lv_if_le (tgt := 100) hx hb d_P_read_87 (by decide) (fun c87 => ?_) (fun c87 => ?_)
  · have h := ite_t c87 h
    refine lv_aload_n hx hb d_P_read_100 rfl (lv_at hl 0 rfl) ?_
    refine hg_i C hW 0 7 (hW.fx 0 rfl) rfl q_P (by decide) rfl (lkF C kf_P_146) d_P_read_101 ?_
    obtain ⟨hr1, hr2⟩ := Prod.mk.inj (Option.some.inj h)
    subst hr1
    subst hr2
    exact ea_i C hT hW hS d_P_read_104
  · have h := ite_f c87 h
    refine lv_aload_n hx hb d_P_read_90 rfl (lv_at hl 0 rfl) ?_
    refine lv_iconst (v := 0) hx hb d_P_read_91 (by decide) ?_
    obtain ⟨S12, eS12, h⟩ := lt_some h
    refine hp_i C hW hS 0 2 (hW.fx 0 rfl) rfl q_P (by decide) rfl rfl rfl (lkF C kf_P_179) eS12 d_P_read_92 (fun H locs hW hS => ?_)
    have hkS12 : S12.2.2.2 = S.2.2.2 := by rw [eS12]; rfl
    refine ac_w hkS12 ?_
    have hT := hT.k hkS12
    have hF := hF.kL hkS12
    refine lv_aload_n hx hb d_P_read_95 rfl (lv_at hl 0 rfl) ?_
    refine lv_iconst (v := 0) hx hb d_P_read_96 (by decide) ?_
    obtain ⟨S13, eS13, h⟩ := lt_some h
    refine hp_i C hW hS 0 4 (hW.fx 0 rfl) rfl q_P (by decide) rfl rfl rfl (lkF C kf_P_182) eS13 d_P_read_97 (fun H locs hW hS => ?_)
    have hkS13 : S13.2.2.2 = S12.2.2.2 := by rw [eS13]; rfl
    refine ac_w hkS13 ?_
    have hT := hT.k hkS13
    have hF := hF.kL hkS13
    refine lv_aload_n hx hb d_P_read_100 rfl (lv_at hl 0 rfl) ?_
    refine hg_i C hW 0 7 (hW.fx 0 rfl) rfl q_P (by decide) rfl (lkF C kf_P_146) d_P_read_101 ?_
    obtain ⟨hr1, hr2⟩ := Prod.mk.inj (Option.some.inj h)
    subst hr1
    subst hr2
    exact ea_i C hT hW hS d_P_read_104
set_option maxHeartbeats 4000000 in
set_option maxRecDepth 100000 in
theorem w_P_read_27B {ad0 ad : Nat → Nat} {S0 : HS} (C : CB p s m args c meth b_P_read "TwoLevelParser" 1 (some .int) D cA z ac) (n : Nat) (kc : HS → Option (Int32 × HS)) {r : Int32} {S' : HS} (hk : ∀ (S : HS) {ad : Nat → Nat} {H : Heap} {locs : List Loc} {ls : Array Slot}, kc S = some (r, S') → AC S0 ad0 S ad → HW D cA z ac E1 ad S H → va_S (zA z) s.heap H locs → lv_has ls 1 [(0, .ref (ad 0))] → GA p l e 12 s m args below meth c D cA z ac E1 ad0 S0 (fun _ => some (.int r)) S' S H locs (F0 m 27 ls [])) (hkm : ∀ (S : HS), kc S = some (r, S') → MN S S') {S : HS} {H : Heap} {locs : List Loc} {ls : Array Slot} (h : f_P_read_b27B n kc S = some (r, S')) (hT : AC S0 ad0 S ad) (hW : HW D cA z ac E1 ad S H) (hS : va_S (zA z) s.heap H locs) (hl : lv_has ls 1 [(0, .ref (ad 0))]) : GA p l e 12 s m args below meth c D cA z ac E1 ad0 S0 (fun _ => some (.int r)) S' S H locs (F0 m 27 ls []) := by
  obtain ⟨⟨hx, hb, hml, hown, hts⟩, hK, hr, hlo⟩ := id C
  have hF : MN S S' := m_P_read_27B hkm h
  unfold f_P_read_b27B at h
  refine lv_aload_n hx hb d_P_read_27 rfl (lv_at hl 0 rfl) ?_
  refine hg_i C hW 0 7 (hW.fx 0 rfl) rfl q_P (by decide) rfl (lkF C kf_P_146) d_P_read_28 ?_
  refine lv_if_ne (tgt := 83) hx hb d_P_read_31 (by decide) (fun c31 => ?_) (fun c31 => ?_)
  · have h := ite_f c31 h
    exact w_P_read_83 C n h hT hW hS (lv_sub hl [0] rfl)
  · have h := ite_t c31 h
    refine lv_aload_n hx hb d_P_read_34 rfl (lv_at hl 0 rfl) ?_
    refine hg_r (j := 1) C hW 0 0 (hW.fx 0 rfl) rfl q_P (by decide) rfl (hW.fn (E := E1) (i := 0) (k := 0) rfl) (lkF C kf_P_112) d_P_read_35 ?_
    obtain ⟨j6, ej6, h⟩ := ob_some h
    refine hg_r (j := j6) C hW 1 3 (hW.fx 1 rfl) rfl q_X (by decide) rfl ej6 (lkN C kf_P_149) d_P_read_38 ?_
    refine hc_so (i := 4) C hW hS (by decide) kf_P_158 d_P_read_41 ?_
    obtain ⟨g7, h⟩ := gd_some h
    refine hj_eq (tgt := 83) C hW g7.1 g7.2 d_P_read_44 (by decide) (fun c44 => ?_) (fun c44 => ?_)
    · have h := ite_t c44 h
      exact w_P_read_83 C n h hT hW hS (lv_sub hl [0] rfl)
    · have h := ite_f c44 h
      refine lv_aload_n hx hb d_P_read_47 rfl (lv_at hl 0 rfl) ?_
      refine hg_r (j := 1) C hW 0 0 (hW.fx 0 rfl) rfl q_P (by decide) rfl (hW.fn (E := E1) (i := 0) (k := 0) rfl) (lkF C kf_P_112) d_P_read_48 ?_
      obtain ⟨j8, ej8, h⟩ := ob_some h
      refine hg_r (j := j8) C hW 1 3 (hW.fx 1 rfl) rfl q_X (by decide) rfl ej8 (lkN C kf_P_149) d_P_read_51 ?_
      refine hc_so (i := 0) C hW hS (by decide) kf_P_188 d_P_read_54 ?_
      obtain ⟨g9, h⟩ := gd_some h
      refine hj_ne (tgt := 69) C hW g9.1 g9.2 d_P_read_57 (by decide) (fun c57 => ?_) (fun c57 => ?_)
      · have h := ite_t c57 h
        refine lv_aload_n hx hb d_P_read_60 rfl (lv_at hl 0 rfl) ?_
        refine hg_i C hW 0 4 (hW.fx 0 rfl) rfl q_P (by decide) rfl (lkF C kf_P_182) d_P_read_61 ?_
        refine lv_bipush (v := 64) hx hb d_P_read_64 (by decide) ?_
        refine lv_icmp_ne (tgt := 76) hx hb d_P_read_66 (by decide) (fun c66 => ?_) (fun c66 => ?_)
        · have h := ite_f c66 h
          refine lv_aload_n hx hb d_P_read_76 rfl (lv_at hl 0 rfl) ?_
          obtain ⟨S11, eS11, h⟩ := ob_some h
          have hX := hW
          refine hx_VA (i := 0) (As := []) (rest := []) C hW hS hT (s_P_readDefinition n eS11) (m_P_readDefinition eS11) km_P_191 kv_P_readDefinition ke_P_readDefinition kn_P kw_P_readDefinition kd_P_readDefinition (hW.fx 0 rfl) rfl q_P rfl ⟨(Nat.le_of_ble_eq_true rfl), (Nat.le_of_ble_eq_true rfl)⟩ (MN.le (m_P_read_80 hkm h) _) rfl hl.1 rfl (Nat.le_of_ble_eq_true rfl) d_P_read_77 (fun ad10 H locs hA hT hW hS => ?_)
          have hl : lv_has ls 1 [(0, .ref (ad10 0))] := by rw [hA 0 (hX.fx 0 rfl)]; exact lv_sub hl [0] rfl
          exact w_P_read_80 C n kc hk hkm h hT hW hS (lv_sub hl [0] rfl)
        · have h := ite_t c66 h
          exact w_P_read_69 C n kc hk hkm h hT hW hS (lv_sub hl [0] rfl)
      · have h := ite_f c57 h
        exact w_P_read_69 C n kc hk hkm h hT hW hS (lv_sub hl [0] rfl)
set_option maxHeartbeats 4000000 in
set_option maxRecDepth 100000 in
theorem w_P_read_27 {ad0 : Nat → Nat} {S0 : HS} (C : CB p s m args c meth b_P_read "TwoLevelParser" 1 (some .int) D cA z ac) (n : Nat) (k : Nat) {r : Int32} {S' : HS} : ∀ {S : HS} {ad : Nat → Nat} {H : Heap} {locs : List Loc} {ls : Array Slot}, f_P_read_b27 n k S = some (r, S') → AC S0 ad0 S ad → HW D cA z ac E1 ad S H → va_S (zA z) s.heap H locs → lv_has ls 1 [(0, .ref (ad 0))] → GA p l e 12 s m args below meth c D cA z ac E1 ad0 S0 (fun _ => some (.int r)) S' S H locs (F0 m 27 ls []) := by
  induction k with
  | zero => intro S ad H locs ls h; cases h
  | succ k ih => intro S ad H locs ls h hT hW hS hl; exact w_P_read_27B C n (f_P_read_b27 n k) (fun S ad H locs ls h hT hW hS hl => ih h hT hW hS hl) (fun S h => m_P_read_27 k h) h hT hW hS hl
set_option maxHeartbeats 4000000 in
set_option maxRecDepth 100000 in
theorem s_P_read (n : Nat) {ad : Nat → Nat} {S : HS} {r : Int32} {S' : HS} (h : f_P_read n S = some (r, S')) : Met l y_P_read (.code y_P_read b_P_read 1 (some .int) :: lw_g) (rmD 12 (gC S' - gC S) (gN S' - gN S)) (PcH D cA z ac E1 ad [.ref (ad 0)] S) (QA D cA z ac E1 ad S (fun _ => some (.int r)) S') (gC S' - gC S) (gN S' - gN S) (zA z) := by
  refine Met.ofHA (own := "TwoLevelParser") (by decide) rfl (Nat.le_of_ble_eq_true rfl) ?_
  intro p e s m args below meth c H ls C hnm hW hS hl
  have hl : lv_has ls 1 [(0, .ref (ad 0))] := hl
  obtain ⟨⟨hx, hb, hml, hown, hts⟩, hK, hr, hlo⟩ := id C
  have hF : MN S S' := m_P_read h
  have hT : AC S ad S ad := AC.rf
  unfold f_P_read at h
  refine lv_aload_n hx hb d_P_read_0 rfl (lv_at hl 0 rfl) ?_
  refine lv_iconst (v := 0) hx hb d_P_read_1 (by decide) ?_
  obtain ⟨S1, eS1, h⟩ := lt_some h
  refine hp_i C hW hS 0 7 (hW.fx 0 rfl) rfl q_P (by decide) rfl rfl rfl (lkF C kf_P_146) eS1 d_P_read_2 (fun H locs hW hS => ?_)
  have hkS1 : S1.2.2.2 = S.2.2.2 := by rw [eS1]; rfl
  refine ac_w hkS1 ?_
  have hT := hT.k hkS1
  have hF := hF.kL hkS1
  refine lv_aload_n hx hb d_P_read_5 rfl (lv_at hl 0 rfl) ?_
  refine lv_iconst (v := -1) hx hb d_P_read_6 (by decide) ?_
  obtain ⟨S2, eS2, h⟩ := lt_some h
  refine hp_i C hW hS 0 8 (hW.fx 0 rfl) rfl q_P (by decide) rfl rfl rfl (lkF C kf_P_134) eS2 d_P_read_7 (fun H locs hW hS => ?_)
  have hkS2 : S2.2.2.2 = S1.2.2.2 := by rw [eS2]; rfl
  refine ac_w hkS2 ?_
  have hT := hT.k hkS2
  have hF := hF.kL hkS2
  refine lv_aload_n hx hb d_P_read_10 rfl (lv_at hl 0 rfl) ?_
  refine lv_iconst (v := 0) hx hb d_P_read_11 (by decide) ?_
  obtain ⟨S3, eS3, h⟩ := lt_some h
  refine hp_i C hW hS 0 2 (hW.fx 0 rfl) rfl q_P (by decide) rfl rfl rfl (lkF C kf_P_179) eS3 d_P_read_12 (fun H locs hW hS => ?_)
  have hkS3 : S3.2.2.2 = S2.2.2.2 := by rw [eS3]; rfl
  refine ac_w hkS3 ?_
  have hT := hT.k hkS3
  have hF := hF.kL hkS3
  refine lv_aload_n hx hb d_P_read_15 rfl (lv_at hl 0 rfl) ?_
  refine lv_iconst (v := 0) hx hb d_P_read_16 (by decide) ?_
  obtain ⟨S4, eS4, h⟩ := lt_some h
  refine hp_i C hW hS 0 4 (hW.fx 0 rfl) rfl q_P (by decide) rfl rfl rfl (lkF C kf_P_182) eS4 d_P_read_17 (fun H locs hW hS => ?_)
  have hkS4 : S4.2.2.2 = S3.2.2.2 := by rw [eS4]; rfl
  refine ac_w hkS4 ?_
  have hT := hT.k hkS4
  have hF := hF.kL hkS4
  refine lv_aload_n hx hb d_P_read_20 rfl (lv_at hl 0 rfl) ?_
  refine hg_r (j := 1) C hW 0 0 (hW.fx 0 rfl) rfl q_P (by decide) rfl (hW.fn (E := E1) (i := 0) (k := 0) rfl) (lkF C kf_P_112) d_P_read_21 ?_
  obtain ⟨S5, eS5, h⟩ := ob_some h
  refine hx_V (i := 1) (As := []) (rest := []) C hW hS (s_X_begin n eS5) km_P_185 kv_X_begin ke_X_begin kn_X kw_X_begin kd_X_begin (hW.fx 1 rfl) rfl q_X rfl ⟨(Nat.le_of_ble_eq_true rfl), (Nat.le_of_ble_eq_true rfl)⟩ (hF.le _) rfl hl.1 rfl (Nat.le_of_ble_eq_true rfl) d_P_read_24 (fun H locs hW hS => ?_)
  have hkS5 : S5.2.2.2 = S4.2.2.2 := k_X_begin eS5
  refine ac_w hkS5 ?_
  have hT := hT.k hkS5
  have hF := hF.kL hkS5
  exact w_P_read_27 C n n h hT hW hS (lv_sub hl [0] rfl)
end WA
