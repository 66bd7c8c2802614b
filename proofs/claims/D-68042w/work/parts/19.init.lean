-- printed by gen/walk2.py
def f_X_init_b10 (y0 : Nat) (y1 : Nat) (S : HS) : Option HS :=
  gd (kd y1 = 1 ∧ gD S y1 = true) <|
  gd (gD S y0 = true) <|
  lt (sX S y1 0 (some y0)) fun S8 =>
  some S8
def f_X_init (x0 : Nat) (S : HS) : Option HS :=
  lt 2 fun i1 =>
  gd (gD S x0 = true) <|
  gd (gD S x0 = true) <|
  gd (kd i1 = 10 ∧ ln i1 = 8192 ∧ gD S i1 = false ∧ ¬ (300 ≤ i1 ∧ i1 < 600)) <|
  lt (sN S i1 8192) fun S5 =>
  f_X_init_b10 i1 x0 S5
set_option maxHeartbeats 4000000 in
set_option maxRecDepth 100000 in
theorem m_X_init_10 {S' : HS} {y0 : Nat} {y1 : Nat} {S : HS} (h : f_X_init_b10 y0 y1 S = some S') : MN S S' := by
  unfold f_X_init_b10 at h
  have hm : MN S S := MN.rf
  obtain ⟨g7, h⟩ := gd_some h
  obtain ⟨g9, h⟩ := gd_some h
  obtain ⟨S8, eS8, h⟩ := lt_some h
  have hm := hm.kR (show S8.2.2.2 = S.2.2.2 from by rw [eS8]; rfl)
  have h := Option.some.inj h
  subst h
  exact hm
set_option maxHeartbeats 4000000 in
set_option maxRecDepth 100000 in
theorem m_X_init {x0 : Nat} {S : HS} {S' : HS} (h : f_X_init x0 S = some S') : MN S S' := by
  unfold f_X_init at h
  have hm : MN S S := MN.rf
  obtain ⟨i1, ei1, h⟩ := lt_some h
  obtain ⟨g2, h⟩ := gd_some h
  obtain ⟨g3, h⟩ := gd_some h
  obtain ⟨g4, h⟩ := gd_some h
  obtain ⟨S5, eS5, h⟩ := lt_some h
  have hm := hm.tr (MN.nw eS5)
  exact hm.tr (m_X_init_10 h)
section WA
variable {p : Program} {l : Launch} {e : Env} {s : State} {m : MethodId} {args : Array Value} {below : List Frame} {meth : Method} {c : Code} {D : va_G} {cA : Nat → ClassId} {z : Nat} {ac : Nat → Nat}
set_option maxHeartbeats 4000000 in
set_option maxRecDepth 100000 in
theorem w_X_init_10 {ad0 ad : Nat → Nat} {S0 : HS} (C : CB p s m args c meth b_X_init "TwoLevelParser$Lexer" 1 none D cA z ac) (hnm : meth.name = "<init>") {S' : HS} (y0 : Nat) (y1 : Nat) {S : HS} {H : Heap} {locs : List Loc} {ls : Array Slot} (h : f_X_init_b10 y0 y1 S = some S') (hT : AC S0 ad0 S ad) (hW : HW D cA z ac E0 ad S H) (hS : va_S (zA z) s.heap H locs) (hl : lv_has ls 1 []) : GA p l e 1 s m args below meth c D cA z ac E0 ad0 S0 (fun _ => none) S' S H locs (F0 m 10 ls [.ref (ad y0), .ref (ad y1)]) := by
  obtain ⟨⟨hx, hb, hml, hown, hts⟩, hK, hr, hlo⟩ := id C
  have hF : MN S S' := m_X_init_10 h
  unfold f_X_init_b10 at h
  obtain ⟨g7, h⟩ := gd_some h
  obtain ⟨g9, h⟩ := gd_some h
  obtain ⟨S8, eS8, h⟩ := lt_some h
  refine hp_fin (j := y0) C hnm hW hS y1 0 g7.2 g7.1 q_X (by decide) rfl rfl kf_X_9 rfl rfl rfl rfl (Or.inl g9) rfl eS8 d_X_init_10 (fun H locs hW hS => ?_)
  have hkS8 : S8.2.2.2 = S.2.2.2 := by rw [eS8]; rfl
  refine ac_w hkS8 ?_
  have hT := hT.k hkS8
  have hF := hF.kL hkS8
  have h := Option.some.inj h
  subst h
  exact ea_v C hT hW hS d_X_init_13
set_option maxHeartbeats 4000000 in
set_option maxRecDepth 100000 in
theorem s_X_init (x0 : Nat) {ad : Nat → Nat} {S : HS} {S' : HS} (h : f_X_init x0 S = some S') : Met l y_X_init (.code y_X_init b_X_init 1 none :: lw_g) (rmD 1 (gC S' - gC S) (gN S' - gN S)) (PcH D cA z ac E0 ad [.ref (ad x0)] S) (QA D cA z ac E0 ad S (fun _ => none) S') (gC S' - gC S) (gN S' - gN S) (zA z) := by
  refine Met.ofHA (own := "TwoLevelParser$Lexer") (by decide) rfl (Nat.le_of_ble_eq_true rfl) ?_
  intro p e s m args below meth c H ls C hnm hW hS hl
  have hl : lv_has ls 1 [(0, .ref (ad x0))] := hl
  obtain ⟨⟨hx, hb, hml, hown, hts⟩, hK, hr, hlo⟩ := id C
  have hF : MN S S' := m_X_init h
  have hT : AC S ad S ad := AC.rf
  unfold f_X_init at h
  refine lv_aload_n hx hb d_X_init_0 rfl (lv_at hl 0 rfl) ?_
  refine W.objInit hx hb hown (hts _ km_X_3) (hts _ ko_ins) (hts _ ko_code) rfl (by rw [hml]; exact hl.1) rfl d_X_init_1 (Nat.le_of_ble_eq_true rfl) (Nat.le_of_ble_eq_true rfl) ?_
  refine lv_aload_n hx hb d_X_init_4 rfl (lv_at hl 0 rfl) ?_
  refine lv_sipush (v := 8192) hx hb d_X_init_5 (by decide) ?_
  obtain ⟨i1, ei1, h⟩ := lt_some h
  obtain ⟨g2, h⟩ := gd_some h
  obtain ⟨g3, h⟩ := gd_some h
  obtain ⟨g4, h⟩ := gd_some h
  obtain ⟨S5, eS5, h⟩ := lt_some h
  have hX := hW
  refine hn_a (atype := .byte) (ty := .byte) (i := i1) (t := 0) (n := 8192) C hW hS hT (hW.zl g3) g4.1 (by decide) g4.2.1 g4.2.2.1 g4.2.2.2 (fun _ => rfl) eS5 rfl rfl (fun _ => rfl) ⟨by decide, by decide⟩ (fun _ h => by cases h) ka_byte (by decide) rfl (by decide) (MN.le (m_X_init_10 h) _) d_X_init_8 (fun ad6 H hA hT hW hS => ?_)
  have hl : lv_has ls 1 [] := by exact lv_sub hl [] rfl
  rw [← hA x0 g2]
  exact w_X_init_10 C hnm i1 x0 h hT hW hS (lv_sub hl [] rfl)
end WA
def f_D_init_b17 (y0 : Nat) (y1 : Nat) (S : HS) : Option HS :=
  gd (kd y1 = 2 ∧ gD S y1 = true) <|
  gd (gD S y0 = true) <|
  lt (sX S y1 7 (some y0)) fun S17 =>
  some S17
def f_D_init_b9 (x0 : Nat) (y0 : Nat) (y1 : Nat) (S : HS) : Option HS :=
  gd (kd y1 = 2 ∧ gD S y1 = true) <|
  gd (gD S y0 = true) <|
  lt (sX S y1 6 (some y0)) fun S8 =>
  lt (x0 + 2) fun i10 =>
  gd (gD S8 x0 = true) <|
  gd (gD S8 x0 = true) <|
  gd (kd i10 = 11 ∧ ln i10 = 8 ∧ gD S8 i10 = false ∧ ¬ (300 ≤ i10 ∧ i10 < 600)) <|
  lt (sN S8 i10 8) fun S14 =>
  f_D_init_b17 i10 x0 S14
def f_D_init (x0 : Nat) (S : HS) : Option HS :=
  lt (x0 + 1) fun i1 =>
  gd (gD S x0 = true) <|
  gd (gD S x0 = true) <|
  gd (kd i1 = 12 ∧ ln i1 = 8 ∧ gD S i1 = false ∧ ¬ (300 ≤ i1 ∧ i1 < 600)) <|
  lt (sN S i1 8) fun S5 =>
  f_D_init_b9 x0 i1 x0 S5
set_option maxHeartbeats 4000000 in
set_option maxRecDepth 100000 in
theorem m_D_init_17 {S' : HS} {y0 : Nat} {y1 : Nat} {S : HS} (h : f_D_init_b17 y0 y1 S = some S') : MN S S' := by
  unfold f_D_init_b17 at h
  have hm : MN S S := MN.rf
  obtain ⟨g16, h⟩ := gd_some h
  obtain ⟨g18, h⟩ := gd_some h
  obtain ⟨S17, eS17, h⟩ := lt_some h
  have hm := hm.kR (show S17.2.2.2 = S.2.2.2 from by rw [eS17]; rfl)
  have h := Option.some.inj h
  subst h
  exact hm
set_option maxHeartbeats 4000000 in
set_option maxRecDepth 100000 in
theorem m_D_init_9 {S' : HS} {x0 : Nat} {y0 : Nat} {y1 : Nat} {S : HS} (h : f_D_init_b9 x0 y0 y1 S = some S') : MN S S' := by
  unfold f_D_init_b9 at h
  have hm : MN S S := MN.rf
  obtain ⟨g7, h⟩ := gd_some h
  obtain ⟨g9, h⟩ := gd_some h
  obtain ⟨S8, eS8, h⟩ := lt_some h
  have hm := hm.kR (show S8.2.2.2 = S.2.2.2 from by rw [eS8]; rfl)
  obtain ⟨i10, ei10, h⟩ := lt_some h
  obtain ⟨g11, h⟩ := gd_some h
  obtain ⟨g12, h⟩ := gd_some h
  obtain ⟨g13, h⟩ := gd_some h
  obtain ⟨S14, eS14, h⟩ := lt_some h
  have hm := hm.tr (MN.nw eS14)
  exact hm.tr (m_D_init_17 h)
set_option maxHeartbeats 4000000 in
set_option maxRecDepth 100000 in
theorem m_D_init {x0 : Nat} {S : HS} {S' : HS} (h : f_D_init x0 S = some S') : MN S S' := by
  unfold f_D_init at h
  have hm : MN S S := MN.rf
  obtain ⟨i1, ei1, h⟩ := lt_some h
  obtain ⟨g2, h⟩ := gd_some h
  obtain ⟨g3, h⟩ := gd_some h
  obtain ⟨g4, h⟩ := gd_some h
  obtain ⟨S5, eS5, h⟩ := lt_some h
  have hm := hm.tr (MN.nw eS5)
  exact hm.tr (m_D_init_9 h)
section WA
variable {p : Program} {l : Launch} {e : Env} {s : State} {m : MethodId} {args : Array Value} {below : List Frame} {meth : Method} {c : Code} {D : va_G} {cA : Nat → ClassId} {z : Nat} {ac : Nat → Nat}
set_option maxHeartbeats 4000000 in
set_option maxRecDepth 100000 in
theorem w_D_init_17 {ad0 ad : Nat → Nat} {S0 : HS} (C : CB p s m args c meth b_D_init "TwoLevelParser$Definition" 1 none D cA z ac) (hnm : meth.name = "<init>") {S' : HS} (y0 : Nat) (y1 : Nat) {S : HS} {H : Heap} {locs : List Loc} {ls : Array Slot} (h : f_D_init_b17 y0 y1 S = some S') (hT : AC S0 ad0 S ad) (hW : HW D cA z ac E0 ad S H) (hS : va_S (zA z) s.heap H locs) (hl : lv_has ls 1 []) : GA p l e 1 s m args below meth c D cA z ac E0 ad0 S0 (fun _ => none) S' S H locs (F0 m 17 ls [.ref (ad y0), .ref (ad y1)]) := by
  obtain ⟨⟨hx, hb, hml, hown, hts⟩, hK, hr, hlo⟩ := id C
  have hF : MN S S' := m_D_init_17 h
  unfold f_D_init_b17 at h
  obtain ⟨g16, h⟩ := gd_some h
  obtain ⟨g18, h⟩ := gd_some h
  obtain ⟨S17, eS17, h⟩ := lt_some h
  refine hp_fin (j := y0) C hnm hW hS y1 7 g16.2 g16.1 q_D (by decide) rfl rfl kf_D_15 rfl rfl rfl rfl (Or.inl g18) rfl eS17 d_D_init_17 (fun H locs hW hS => ?_)
  have hkS17 : S17.2.2.2 = S.2.2.2 := by rw [eS17]; rfl
  refine ac_w hkS17 ?_
  have hT := hT.k hkS17
  have hF := hF.kL hkS17
  have h := Option.some.inj h
  subst h
  exact ea_v C hT hW hS d_D_init_20
set_option maxHeartbeats 4000000 in
set_option maxRecDepth 100000 in
theorem w_D_init_9 {ad0 ad : Nat → Nat} {S0 : HS} (C : CB p s m args c meth b_D_init "TwoLevelParser$Definition" 1 none D cA z ac) (hnm : meth.name = "<init>") {S' : HS} (x0 : Nat) (y0 : Nat) (y1 : Nat) {S : HS} {H : Heap} {locs : List Loc} {ls : Array Slot} (h : f_D_init_b9 x0 y0 y1 S = some S') (hT : AC S0 ad0 S ad) (hW : HW D cA z ac E0 ad S H) (hS : va_S (zA z) s.heap H locs) (hl : lv_has ls 1 [(0, .ref (ad x0))]) : GA p l e 1 s m args below meth c D cA z ac E0 ad0 S0 (fun _ => none) S' S H locs (F0 m 9 ls [.ref (ad y0), .ref (ad y1)]) := by
  obtain ⟨⟨hx, hb, hml, hown, hts⟩, hK, hr, hlo⟩ := id C
  have hF : MN S S' := m_D_init_9 h
  unfold f_D_init_b9 at h
  obtain ⟨g7, h⟩ := gd_some h
  obtain ⟨g9, h⟩ := gd_some h
  obtain ⟨S8, eS8, h⟩ := lt_some h
  refine hp_fin (j := y0) C hnm hW hS y1 6 g7.2 g7.1 q_D (by decide) rfl rfl kf_D_9 rfl rfl rfl rfl (Or.inl g9) rfl eS8 d_D_init_9 (fun H locs hW hS => ?_)
  have hkS8 : S8.2.2.2 = S.2.2.2 := by rw [eS8]; rfl
  refine ac_w hkS8 ?_
  have hT := hT.k hkS8
  have hF := hF.kL hkS8
  refine lv_aload_n hx hb d_D_init_12 rfl (lv_at hl 0 rfl) ?_
  refine lv_bipush (v := 8) hx hb d_D_init_13 (by decide) ?_
  obtain ⟨i10, ei10, h⟩ := lt_some h
  obtain ⟨g11, h⟩ := gd_some h
  obtain ⟨g12, h⟩ := gd_some h
  obtain ⟨g13, h⟩ := gd_some h
  obtain ⟨S14, eS14, h⟩ := lt_some h
  have hX := hW
  refine hn_a (atype := .int) (ty := .int) (i := i10) (t := 1) (n := 8) C hW hS hT (hW.zl g12) g13.1 (by decide) g13.2.1 g13.2.2.1 g13.2.2.2 (fun _ => rfl) eS14 rfl rfl (fun _ => rfl) ⟨by decide, by decide⟩ (fun _ h => by cases h) ka_int (by decide) rfl (by decide) (MN.le (m_D_init_17 h) _) d_D_init_15 (fun ad15 H hA hT hW hS => ?_)
  have hl : lv_has ls 1 [] := by exact lv_sub hl [] rfl
  rw [← hA x0 g11]
  exact w_D_init_17 C hnm i10 x0 h hT hW hS (lv_sub hl [] rfl)
set_option maxHeartbeats 4000000 in
set_option maxRecDepth 100000 in
theorem s_D_init (x0 : Nat) {ad : Nat → Nat} {S : HS} {S' : HS} (h : f_D_init x0 S = some S') : Met l y_D_init (.code y_D_init b_D_init 1 none :: lw_g) (rmD 1 (gC S' - gC S) (gN S' - gN S)) (PcH D cA z ac E0 ad [.ref (ad x0)] S) (QA D cA z ac E0 ad S (fun _ => none) S') (gC S' - gC S) (gN S' - gN S) (zA z) := by
  refine Met.ofHA (own := "TwoLevelParser$Definition") (by decide) rfl (Nat.le_of_ble_eq_true rfl) ?_
  intro p e s m args below meth c H ls C hnm hW hS hl
  have hl : lv_has ls 1 [(0, .ref (ad x0))] := hl
  obtain ⟨⟨hx, hb, hml, hown, hts⟩, hK, hr, hlo⟩ := id C
  have hF : MN S S' := m_D_init h
  have hT : AC S ad S ad := AC.rf
  unfold f_D_init at h
  refine lv_aload_n hx hb d_D_init_0 rfl (lv_at hl 0 rfl) ?_
  refine W.objInit hx hb hown (hts _ km_D_3) (hts _ ko_ins) (hts _ ko_code) rfl (by rw [hml]; exact hl.1) rfl d_D_init_1 (Nat.le_of_ble_eq_true rfl) (Nat.le_of_ble_eq_true rfl) ?_
  refine lv_aload_n hx hb d_D_init_4 rfl (lv_at hl 0 rfl) ?_
  refine lv_bipush (v := 8) hx hb d_D_init_5 (by decide) ?_
  obtain ⟨i1, ei1, h⟩ := lt_some h
  obtain ⟨g2, h⟩ := gd_some h
  obtain ⟨g3, h⟩ := gd_some h
  obtain ⟨g4, h⟩ := gd_some h
  obtain ⟨S5, eS5, h⟩ := lt_some h
  have hX := hW
  refine hn_a (atype := .long) (ty := .long) (i := i1) (t := 2) (n := 8) C hW hS hT (hW.zl g3) g4.1 (by decide) g4.2.1 g4.2.2.1 g4.2.2.2 (fun _ => rfl) eS5 rfl rfl (fun _ => rfl) ⟨by decide, by decide⟩ (fun _ h => by cases h) ka_long (by decide) rfl (by decide) (MN.le (m_D_init_9 h) _) d_D_init_7 (fun ad6 H hA hT hW hS => ?_)
  have hl : lv_has ls 1 [(0, .ref (ad6 x0))] := by rw [hA x0 g2]; exact lv_sub hl [0] rfl
  rw [← hA x0 g2]
  exact w_D_init_9 C hnm x0 i1 x0 h hT hW hS (lv_sub hl [0] rfl)
end WA
def f_P_init_b69 (n : Nat) (kc : Nat → Int32 → HS → Option HS) (x0 : Nat) (x1 : Int32) (y0 : Nat) (y1 : Int32) (y2 : Nat) (S : HS) : Option HS :=
  gd (kd y2 = 14 ∧ gD S y2 = true ∧ ln y2 = 64) <|
  gd (inR y1 64) <|
  gd (kd y0 = 2 ∧ gD S y0 = true) <|
  lt (sX S y2 y1.toNatClampNeg (some y0)) fun S61 =>
  lt (x1 + 1) fun v63 =>
  kc x0 v63 S61
def f_P_init_b65 (n : Nat) (kc : Nat → Int32 → HS → Option HS) (x0 : Nat) (x1 : Int32) (y0 : Nat) (y1 : Int32) (y2 : Nat) (S : HS) : Option HS :=
  gd (gD S x0 = true) <|
  gd (gD S y0 = true) <|
  gd (gD S y2 = true) <|
  ob (f_D_init y0 S) fun S57 =>
  f_P_init_b69 n kc x0 x1 y0 y1 y2 S57
def f_P_init_b51B (n : Nat) (kc : Nat → Int32 → HS → Option HS) (x0 : Nat) (x1 : Int32) (S : HS) : Option HS :=
  (if (64 : Int32) ≤ x1 then
  some S
  else
  gd (kd x0 = 0 ∧ gD S x0 = true) <|
  ob (gX S x0 3) fun j46 =>
  lt (6 + 3 * x1.toNatClampNeg) fun i47 =>
  gd (gD S x0 = true) <|
  gd (gD S j46 = true) <|
  gd (gD S x0 = true) <|
  gd (kd i47 = 2 ∧ gD S i47 = false ∧ ¬ (300 ≤ i47 ∧ i47 < 600)) <|
  lt (sN S i47 8) fun S52 =>
  f_P_init_b65 n kc x0 x1 i47 x1 j46 S52)
def f_P_init_b51 (n : Nat) (k : Nat) : Nat → Int32 → HS → Option HS := lpF (fun _ _ _ => none) (f_P_init_b51B n) k
def f_P_init_b41 (n : Nat) (x0 : Nat) (y0 : Nat) (y1 : Nat) (S : HS) : Option HS :=
  gd (kd y1 = 0 ∧ gD S y1 = true) <|
  gd (gD S y0 = true) <|
  lt (sX S y1 5 (some y0)) fun S40 =>
  gd (kd x0 = 0 ∧ gD S40 x0 = true) <|
  lt (sF S40 x0 8 (-1 : Int32)) fun S43 =>
  lt (0 : Int32) fun v44 =>
  f_P_init_b51 n n x0 v44 S43
def f_P_init_b31 (n : Nat) (x0 : Nat) (y0 : Nat) (y1 : Nat) (S : HS) : Option HS :=
  gd (kd y1 = 0 ∧ gD S y1 = true) <|
  gd (gD S y0 = true) <|
  lt (sX S y1 3 (some y0)) fun S31 =>
  lt 5 fun i33 =>
  gd (gD S31 x0 = true) <|
  gd (gD S31 x0 = true) <|
  gd (kd i33 = 15 ∧ ln i33 = 4200 ∧ gD S31 i33 = false ∧ ¬ (300 ≤ i33 ∧ i33 < 600)) <|
  lt (sN S31 i33 4200) fun S37 =>
  f_P_init_b41 n x0 i33 x0 S37
def f_P_init_b22 (n : Nat) (x0 : Nat) (y0 : Nat) (y1 : Nat) (S : HS) : Option HS :=
  gd (kd y1 = 0 ∧ gD S y1 = true) <|
  gd (gD S y0 = true) <|
  lt (sX S y1 1 (some y0)) fun S22 =>
  lt 4 fun i24 =>
  gd (gD S22 x0 = true) <|
  gd (gD S22 x0 = true) <|
  gd (kd i24 = 14 ∧ ln i24 = 64 ∧ gD S22 i24 = false ∧ ¬ (300 ≤ i24 ∧ i24 < 600)) <|
  lt (sN S22 i24 64) fun S28 =>
  f_P_init_b31 n x0 i24 x0 S28
def f_P_init_b12 (n : Nat) (x0 : Nat) (y0 : Nat) (y1 : Nat) (S : HS) : Option HS :=
  gd (kd y1 = 0 ∧ gD S y1 = true) <|
  gd (gD S y0 = true) <|
  lt (sX S y1 0 (some y0)) fun S13 =>
  lt 3 fun i15 =>
  gd (gD S13 x0 = true) <|
  gd (gD S13 x0 = true) <|
  gd (kd i15 = 13 ∧ ln i15 = 4200 ∧ gD S13 i15 = false ∧ ¬ (300 ≤ i15 ∧ i15 < 600)) <|
  lt (sN S13 i15 4200) fun S19 =>
  f_P_init_b22 n x0 i15 x0 S19
def f_P_init_b8 (n : Nat) (x0 : Nat) (y0 : Nat) (y1 : Nat) (S : HS) : Option HS :=
  gd (gD S x0 = true) <|
  gd (gD S y0 = true) <|
  gd (gD S y1 = true) <|
  ob (f_X_init y0 S) fun S10 =>
  f_P_init_b12 n x0 y0 y1 S10
def f_P_init (n : Nat) (x0 : Nat) (S : HS) : Option HS :=
  lt 1 fun i1 =>
  gd (gD S x0 = true) <|
  gd (gD S x0 = true) <|
  gd (kd i1 = 1 ∧ gD S i1 = false ∧ ¬ (300 ≤ i1 ∧ i1 < 600)) <|
  lt (sN S i1 7) fun S5 =>
  f_P_init_b8 n x0 i1 x0 S5
set_option maxHeartbeats 4000000 in
set_option maxRecDepth 100000 in
theorem m_P_init_69 {n : Nat} {kc : Nat → Int32 → HS → Option HS} {S' : HS} (hkm : ∀ (x0 : Nat) (x1 : Int32) (S : HS), kc x0 x1 S = some S' → MN S S') {x0 : Nat} {x1 : Int32} {y0 : Nat} {y1 : Int32} {y2 : Nat} {S : HS} (h : f_P_init_b69 n kc x0 x1 y0 y1 y2 S = some S') : MN S S' := by
  unfold f_P_init_b69 at h
  have hm : MN S S := MN.rf
  obtain ⟨g59, h⟩ := gd_some h
  obtain ⟨g60, h⟩ := gd_some h
  obtain ⟨g62, h⟩ := gd_some h
  obtain ⟨S61, eS61, h⟩ := lt_some h
  have hm := hm.kR (show S61.2.2.2 = S.2.2.2 from by rw [eS61]; rfl)
  obtain ⟨v63, ev63, h⟩ := lt_some h
  exact hm.tr (hkm _ _ _ h)
set_option maxHeartbeats 4000000 in
set_option maxRecDepth 100000 in
theorem m_P_init_65 {n : Nat} {kc : Nat → Int32 → HS → Option HS} {S' : HS} (hkm : ∀ (x0 : Nat) (x1 : Int32) (S : HS), kc x0 x1 S = some S' → MN S S') {x0 : Nat} {x1 : Int32} {y0 : Nat} {y1 : Int32} {y2 : Nat} {S : HS} (h : f_P_init_b65 n kc x0 x1 y0 y1 y2 S = some S') : MN S S' := by
  unfold f_P_init_b65 at h
  have hm : MN S S := MN.rf
  obtain ⟨g54, h⟩ := gd_some h
  obtain ⟨g55, h⟩ := gd_some h
  obtain ⟨g56, h⟩ := gd_some h
  obtain ⟨S57, eS57, h⟩ := ob_some h
  have hm := hm.tr (m_D_init eS57)
  exact hm.tr (m_P_init_69 hkm h)
set_option maxHeartbeats 4000000 in
set_option maxRecDepth 100000 in
theorem m_P_init_51B {n : Nat} {kc : Nat → Int32 → HS → Option HS} {S' : HS} (hkm : ∀ (x0 : Nat) (x1 : Int32) (S : HS), kc x0 x1 S = some S' → MN S S') {x0 : Nat} {x1 : Int32} {S : HS} (h : f_P_init_b51B n kc x0 x1 S = some S') : MN S S' := by
  unfold f_P_init_b51B at h
  have hm : MN S S := MN.rf
  rcases ite_or h with ⟨c54, h⟩ | ⟨c54, h⟩
  · have h := Option.some.inj h
    subst h
    exact hm
  · obtain ⟨g45, h⟩ := gd_some h
    obtain ⟨j46, ej46, h⟩ := ob_some h
    obtain ⟨i47, ei47, h⟩ := lt_some h
    obtain ⟨g48, h⟩ := gd_some h
    obtain ⟨g49, h⟩ := gd_some h
    obtain ⟨g50, h⟩ := gd_some h
    obtain ⟨g51, h⟩ := gd_some h
    obtain ⟨S52, eS52, h⟩ := lt_some h
    have hm := hm.tr (MN.nw eS52)
    exact hm.tr (m_P_init_65 hkm h)
set_option maxHeartbeats 4000000 in
set_option maxRecDepth 100000 in
theorem m_P_init_51 {n : Nat} (k : Nat) {S' : HS} : ∀ {x0 : Nat} {x1 : Int32} {S : HS}, f_P_init_b51 n k x0 x1 S = some S' → MN S S' := by
  induction k with
  | zero => intro x0 x1 S h; cases h
  | succ k ih => intro x0 x1 S h; exact m_P_init_51B (n := n) (kc := f_P_init_b51 n k) (fun x0 x1 S h => ih h) h
set_option maxHeartbeats 4000000 in
set_option maxRecDepth 100000 in
theorem m_P_init_41 {n : Nat} {S' : HS} {x0 : Nat} {y0 : Nat} {y1 : Nat} {S : HS} (h : f_P_init_b41 n x0 y0 y1 S = some S') : MN S S' := by
  unfold f_P_init_b41 at h
  have hm : MN S S := MN.rf
  obtain ⟨g39, h⟩ := gd_some h
  obtain ⟨g41, h⟩ := gd_some h
  obtain ⟨S40, eS40, h⟩ := lt_some h
  have hm := hm.kR (show S40.2.2.2 = S.2.2.2 from by rw [eS40]; rfl)
  obtain ⟨g42, h⟩ := gd_some h
  obtain ⟨S43, eS43, h⟩ := lt_some h
  have hm := hm.kR (show S43.2.2.2 = S40.2.2.2 from by rw [eS43]; rfl)
  obtain ⟨v44, ev44, h⟩ := lt_some h
  exact hm.tr (m_P_init_51 n h)
set_option maxHeartbeats 4000000 in
set_option maxRecDepth 100000 in
theorem m_P_init_31 {n : Nat} {S' : HS} {x0 : Nat} {y0 : Nat} {y1 : Nat} {S : HS} (h : f_P_init_b31 n x0 y0 y1 S = some S') : MN S S' := by
  unfold f_P_init_b31 at h
  have hm : MN S S := MN.rf
  obtain ⟨g30, h⟩ := gd_some h
  obtain ⟨g32, h⟩ := gd_some h
  obtain ⟨S31, eS31, h⟩ := lt_some h
  have hm := hm.kR (show S31.2.2.2 = S.2.2.2 from by rw [eS31]; rfl)
  obtain ⟨i33, ei33, h⟩ := lt_some h
  obtain ⟨g34, h⟩ := gd_some h
  obtain ⟨g35, h⟩ := gd_some h
  obtain ⟨g36, h⟩ := gd_some h
  obtain ⟨S37, eS37, h⟩ := lt_some h
  have hm := hm.tr (MN.nw eS37)
  exact hm.tr (m_P_init_41 h)
set_option maxHeartbeats 4000000 in
set_option maxRecDepth 100000 in
theorem m_P_init_22 {n : Nat} {S' : HS} {x0 : Nat} {y0 : Nat} {y1 : Nat} {S : HS} (h : f_P_init_b22 n x0 y0 y1 S = some S') : MN S S' := by
  unfold f_P_init_b22 at h
  have hm : MN S S := MN.rf
  obtain ⟨g21, h⟩ := gd_some h
  obtain ⟨g23, h⟩ := gd_some h
  obtain ⟨S22, eS22, h⟩ := lt_some h
  have hm := hm.kR (show S22.2.2.2 = S.2.2.2 from by rw [eS22]; rfl)
  obtain ⟨i24, ei24, h⟩ := lt_some h
  obtain ⟨g25, h⟩ := gd_some h
  obtain ⟨g26, h⟩ := gd_some h
  obtain ⟨g27, h⟩ := gd_some h
  obtain ⟨S28, eS28, h⟩ := lt_some h
  have hm := hm.tr (MN.nw eS28)
  exact hm.tr (m_P_init_31 h)
set_option maxHeartbeats 4000000 in
set_option maxRecDepth 100000 in
theorem m_P_init_12 {n : Nat} {S' : HS} {x0 : Nat} {y0 : Nat} {y1 : Nat} {S : HS} (h : f_P_init_b12 n x0 y0 y1 S = some S') : MN S S' := by
  unfold f_P_init_b12 at h
  have hm : MN S S := MN.rf
  obtain ⟨g12, h⟩ := gd_some h
  obtain ⟨g14, h⟩ := gd_some h
  obtain ⟨S13, eS13, h⟩ := lt_some h
  have hm := hm.kR (show S13.2.2.2 = S.2.2.2 from by rw [eS13]; rfl)
  obtain ⟨i15, ei15, h⟩ := lt_some h
  obtain ⟨g16, h⟩ := gd_some h
  obtain ⟨g17, h⟩ := gd_some h
  obtain ⟨g18, h⟩ := gd_some h
  obtain ⟨S19, eS19, h⟩ := lt_some h
  have hm := hm.tr (MN.nw eS19)
  exact hm.tr (m_P_init_22 h)
set_option maxHeartbeats 4000000 in
set_option maxRecDepth 100000 in
theorem m_P_init_8 {n : Nat} {S' : HS} {x0 : Nat} {y0 : Nat} {y1 : Nat} {S : HS} (h : f_P_init_b8 n x0 y0 y1 S = some S') : MN S S' := by
  unfold f_P_init_b8 at h
  have hm : MN S S := MN.rf
  obtain ⟨g7, h⟩ := gd_some h
  obtain ⟨g8, h⟩ := gd_some h
  obtain ⟨g9, h⟩ := gd_some h
  obtain ⟨S10, eS10, h⟩ := ob_some h
  have hm := hm.tr (m_X_init eS10)
  exact hm.tr (m_P_init_12 h)
set_option maxHeartbeats 4000000 in
set_option maxRecDepth 100000 in
theorem m_P_init {n : Nat} {x0 : Nat} {S : HS} {S' : HS} (h : f_P_init n x0 S = some S') : MN S S' := by
  unfold f_P_init at h
  have hm : MN S S := MN.rf
  obtain ⟨i1, ei1, h⟩ := lt_some h
  obtain ⟨g2, h⟩ := gd_some h
  obtain ⟨g3, h⟩ := gd_some h
  obtain ⟨g4, h⟩ := gd_some h
  obtain ⟨S5, eS5, h⟩ := lt_some h
  have hm := hm.tr (MN.nw eS5)
  exact hm.tr (m_P_init_8 h)
section WA
variable {p : Program} {l : Launch} {e : Env} {s : State} {m : MethodId} {args : Array Value} {below : List Frame} {meth : Method} {c : Code} {D : va_G} {cA : Nat → ClassId} {z : Nat} {ac : Nat → Nat}
set_option maxHeartbeats 4000000 in
set_option maxRecDepth 100000 in
theorem w_P_init_69 {ad0 ad : Nat → Nat} {S0 : HS} (C : CB p s m args c meth b_P_init "TwoLevelParser" 2 none D cA z ac) (hnm : meth.name = "<init>") (n : Nat) (kc : Nat → Int32 → HS → Option HS) {S' : HS} (hk : ∀ (x0 : Nat) (x1 : Int32) (S : HS) {ad : Nat → Nat} {H : Heap} {locs : List Loc} {ls : Array Slot}, kc x0 x1 S = some S' → AC S0 ad0 S ad → HW D cA z ac E0 ad S H → va_S (zA z) s.heap H locs → lv_has ls 2 [(0, .ref (ad x0)), (1, .int (x1))] → GA p l e 2 s m args below meth c D cA z ac E0 ad0 S0 (fun _ => none) S' S H locs (F0 m 51 ls [])) (hkm : ∀ (x0 : Nat) (x1 : Int32) (S : HS), kc x0 x1 S = some S' → MN S S') (x0 : Nat) (x1 : Int32) (y0 : Nat) (y1 : Int32) (y2 : Nat) {S : HS} {H : Heap} {locs : List Loc} {ls : Array Slot} (h : f_P_init_b69 n kc x0 x1 y0 y1 y2 S = some S') (hT : AC S0 ad0 S ad) (hW : HW D cA z ac E0 ad S H) (hS : va_S (zA z) s.heap H locs) (hl : lv_has ls 2 [(0, .ref (ad x0)), (1, .int (x1))]) : GA p l e 2 s m args below meth c D cA z ac E0 ad0 S0 (fun _ => none) S' S H locs (F0 m 69 ls [.ref (ad y0), .int (y1), .ref (ad y2)]) := by
  obtain ⟨⟨hx, hb, hml, hown, hts⟩, hK, hr, hlo⟩ := id C
  have hF : MN S S' := m_P_init_69 hkm h
  unfold f_P_init_b69 at h
  obtain ⟨g59, h⟩ := gd_some h
  obtain ⟨g60, h⟩ := gd_some h
  obtain ⟨g62, h⟩ := gd_some h
  obtain ⟨S61, eS61, h⟩ := lt_some h
  refine hs_r (t := 4) (ck := 14) C hW hS y2 g59.2.1 g59.1 (by decide) rfl g59.2.2 g60 g62.2 g62.1 q_D rfl eS61 d_P_init_69 (fun H locs hW hS => ?_)
  have hkS61 : S61.2.2.2 = S.2.2.2 := by rw [eS61]; rfl
  refine ac_w hkS61 ?_
  have hT := hT.k hkS61
  have hF := hF.kL hkS61
  obtain ⟨v63, ev63, h⟩ := lt_some h
  refine lv_iinc (v := v63) (lv' := [(1, .int (v63)), (0, .ref (ad x0))]) hx hb d_P_init_70 hl (k := 1) rfl (by rw [ev63]; rfl) (by decide) rfl (fun ls hl => ?_)
  refine lv_goto (tgt := 51) hx hb d_P_init_73 (by decide) ?_
  exact hk _ _ _ h hT hW hS (lv_sub hl [1, 0] rfl)
set_option maxHeartbeats 4000000 in
set_option maxRecDepth 100000 in
theorem w_P_init_65 {ad0 ad : Nat → Nat} {S0 : HS} (C : CB p s m args c meth b_P_init "TwoLevelParser" 2 none D cA z ac) (hnm : meth.name = "<init>") (n : Nat) (kc : Nat → Int32 → HS → Option HS) {S' : HS} (hk : ∀ (x0 : Nat) (x1 : Int32) (S : HS) {ad : Nat → Nat} {H : Heap} {locs : List Loc} {ls : Array Slot}, kc x0 x1 S = some S' → AC S0 ad0 S ad → HW D cA z ac E0 ad S H → va_S (zA z) s.heap H locs → lv_has ls 2 [(0, .ref (ad x0)), (1, .int (x1))] → GA p l e 2 s m args below meth c D cA z ac E0 ad0 S0 (fun _ => none) S' S H locs (F0 m 51 ls [])) (hkm : ∀ (x0 : Nat) (x1 : Int32) (S : HS), kc x0 x1 S = some S' → MN S S') (x0 : Nat) (x1 : Int32) (y0 : Nat) (y1 : Int32) (y2 : Nat) {S : HS} {H : Heap} {locs : List Loc} {ls : Array Slot} (h : f_P_init_b65 n kc x0 x1 y0 y1 y2 S = some S') (hT : AC S0 ad0 S ad) (hW : HW D cA z ac E0 ad S H) (hS : va_S (zA z) s.heap H locs) (hl : lv_has ls 2 [(0, .ref (ad x0)), (1, .int (x1))]) : GA p l e 2 s m args below meth c D cA z ac E0 ad0 S0 (fun _ => none) S' S H locs (F0 m 65 ls [.ref (ad y0), .int (y1), .ref (ad y2)]) := by
  obtain ⟨⟨hx, hb, hml, hown, hts⟩, hK, hr, hlo⟩ := id C
  have hF : MN S S' := m_P_init_65 hkm h
  unfold f_P_init_b65 at h
  refine lv_dup hx hb d_P_init_65 rfl ?_
  obtain ⟨g54, h⟩ := gd_some h
  obtain ⟨g55, h⟩ := gd_some h
  obtain ⟨g56, h⟩ := gd_some h
  obtain ⟨S57, eS57, h⟩ := ob_some h
  have hX := hW
  refine hx_IA (i := y0) (As := []) (rest := [.ref (ad y0), .int (y1), .ref (ad y2)]) C hW hS hT (s_D_init y0 eS57) (m_D_init eS57) (Or.inr ⟨_, km_P_138⟩) kv_D_init kn_D kw_D_init kd_D_init rfl ⟨(Nat.le_of_ble_eq_true rfl), (Nat.le_of_ble_eq_true rfl)⟩ (MN.le (m_P_init_69 hkm h) _) rfl hl.1 rfl (Nat.le_of_ble_eq_true rfl) d_P_init_66 (fun ad58 H locs hA hT hW hS => ?_)
  have hl : lv_has ls 2 [(0, .ref (ad58 x0)), (1, .int (x1))] := by rw [hA x0 g54]; exact lv_sub hl [0, 1] rfl
  rw [← hA y0 g55]
  rw [← hA y2 g56]
  exact w_P_init_69 C hnm n kc hk hkm x0 x1 y0 y1 y2 h hT hW hS (lv_sub hl [0, 1] rfl)
set_option maxHeartbeats 4000000 in
set_option maxRecDepth 100000 in
theorem w_P_init_51B {ad0 ad : Nat → Nat} {S0 : HS} (C : CB p s m args c meth b_P_init "TwoLevelParser" 2 none D cA z ac) (hnm : meth.name = "<init>") (n : Nat) (kc : Nat → Int32 → HS → Option HS) {S' : HS} (hk : ∀ (x0 : Nat) (x1 : Int32) (S : HS) {ad : Nat → Nat} {H : Heap} {locs : List Loc} {ls : Array Slot}, kc x0 x1 S = some S' → AC S0 ad0 S ad → HW D cA z ac E0 ad S H → va_S (zA z) s.heap H locs → lv_has ls 2 [(0, .ref (ad x0)), (1, .int (x1))] → GA p l e 2 s m args below meth c D cA z ac E0 ad0 S0 (fun _ => none) S' S H locs (F0 m 51 ls [])) (hkm : ∀ (x0 : Nat) (x1 : Int32) (S : HS), kc x0 x1 S = some S' → MN S S') (x0 : Nat) (x1 : Int32) {S : HS} {H : Heap} {locs : List Loc} {ls : Array Slot} (h : f_P_init_b51B n kc x0 x1 S = some S') (hT : AC S0 ad0 S ad) (hW : HW D cA z ac E0 ad S H) (hS : va_S (zA z) s.heap H locs) (hl : lv_has ls 2 [(0, .ref (ad x0)), (1, .int (x1))]) : GA p l e 2 s m args below meth c D cA z ac E0 ad0 S0 (fun _ => none) S' S H locs (F0 m 51 ls []) := by
  obtain ⟨⟨hx, hb, hml, hown, hts⟩, hK, hr, hlo⟩ := id C
  have hF : MN S S' := m_P_init_51B hkm h
  unfold f_P_init_b51B at h
  refine lv_iload_n hx hb d_P_init_51 rfl (lv_at hl 1 rfl) ?_
  refine lv_bipush (v := 64) hx hb d_P_init_52 (by decide) ?_
  refine lv_icmp_ge (tgt := 76) hx hb d_P_init_54 (by decide) (fun c54 => ?_) (fun c54 => ?_)
  · have h := ite_t c54 h
    have h := Option.some.inj h
    subst h
    exact ea_v C hT hW hS d_P_init_76
  · have h := ite_f c54 h
    refine lv_aload_n hx hb d_P_init_57 rfl (lv_at hl 0 rfl) ?_
    obtain ⟨g45, h⟩ := gd_some h
    obtain ⟨j46, ej46, h⟩ := ob_some h
    refine hg_r (j := j46) C hW x0 3 g45.2 g45.1 q_P (by decide) rfl ej46 (lkF C kf_P_124) d_P_init_58 ?_
    refine lv_iload_n hx hb d_P_init_61 rfl (lv_at hl 1 rfl) ?_
    obtain ⟨i47, ei47, h⟩ := lt_some h
    obtain ⟨g48, h⟩ := gd_some h
    obtain ⟨g49, h⟩ := gd_some h
    obtain ⟨g50, h⟩ := gd_some h
    obtain ⟨g51, h⟩ := gd_some h
    obtain ⟨S52, eS52, h⟩ := lt_some h
    have hX := hW
    refine hn_o (i := i47) C hW hS hT (hW.zl g50) g51.1 q_D g51.2.1 g51.2.2 (fun _ => rfl) eS52 kc_P_122 kt_D kn_D (MN.le (m_P_init_65 hkm h) _) d_P_init_62 (fun ad53 H hA hT hW hS => ?_)
    have hl : lv_has ls 2 [(0, .ref (ad53 x0)), (1, .int (x1))] := by rw [hA x0 g48]; exact lv_sub hl [0, 1] rfl
    rw [← hA j46 g49]
    exact w_P_init_65 C hnm n kc hk hkm x0 x1 i47 x1 j46 h hT hW hS (lv_sub hl [0, 1] rfl)
set_option maxHeartbeats 4000000 in
set_option maxRecDepth 100000 in
theorem w_P_init_51 {ad0 : Nat → Nat} {S0 : HS} (C : CB p s m args c meth b_P_init "TwoLevelParser" 2 none D cA z ac) (hnm : meth.name = "<init>") (n : Nat) (k : Nat) {S' : HS} : ∀ (x0 : Nat) (x1 : Int32) {S : HS} {ad : Nat → Nat} {H : Heap} {locs : List Loc} {ls : Array Slot}, f_P_init_b51 n k x0 x1 S = some S' → AC S0 ad0 S ad → HW D cA z ac E0 ad S H → va_S (zA z) s.heap H locs → lv_has ls 2 [(0, .ref (ad x0)), (1, .int (x1))] → GA p l e 2 s m args below meth c D cA z ac E0 ad0 S0 (fun _ => none) S' S H locs (F0 m 51 ls []) := by
  induction k with
  | zero => intro x0 x1 S ad H locs ls h; cases h
  | succ k ih => intro x0 x1 S ad H locs ls h hT hW hS hl; exact w_P_init_51B C hnm n (f_P_init_b51 n k) (fun x0 x1 S ad H locs ls h hT hW hS hl => ih x0 x1 h hT hW hS hl) (fun x0 x1 S h => m_P_init_51 k h) x0 x1 h hT hW hS hl
set_option maxHeartbeats 4000000 in
set_option maxRecDepth 100000 in
theorem w_P_init_41 {ad0 ad : Nat → Nat} {S0 : HS} (C : CB p s m args c meth b_P_init "TwoLevelParser" 2 none D cA z ac) (hnm : meth.name = "<init>") (n : Nat) {S' : HS} (x0 : Nat) (y0 : Nat) (y1 : Nat) {S : HS} {H : Heap} {locs : List Loc} {ls : Array Slot} (h : f_P_init_b41 n x0 y0 y1 S = some S') (hT : AC S0 ad0 S ad) (hW : HW D cA z ac E0 ad S H) (hS : va_S (zA z) s.heap H locs) (hl : lv_has ls 2 [(0, .ref (ad x0))]) : GA p l e 2 s m args below meth c D cA z ac E0 ad0 S0 (fun _ => none) S' S H locs (F0 m 41 ls [.ref (ad y0), .ref (ad y1)]) := by
  obtain ⟨⟨hx, hb, hml, hown, hts⟩, hK, hr, hlo⟩ := id C
  have hF : MN S S' := m_P_init_41 h
  unfold f_P_init_b41 at h
  obtain ⟨g39, h⟩ := gd_some h
  obtain ⟨g41, h⟩ := gd_some h
  obtain ⟨S40, eS40, h⟩ := lt_some h
  refine hp_fin (j := y0) C hnm hW hS y1 5 g39.2 g39.1 q_P (by decide) rfl rfl kf_P_130 rfl rfl rfl rfl (Or.inl g41) rfl eS40 d_P_init_41 (fun H locs hW hS => ?_)
  have hkS40 : S40.2.2.2 = S.2.2.2 := by rw [eS40]; rfl
  refine ac_w hkS40 ?_
  have hT := hT.k hkS40
  have hF := hF.kL hkS40
  refine lv_aload_n hx hb d_P_init_44 rfl (lv_at hl 0 rfl) ?_
  refine lv_iconst (v := -1) hx hb d_P_init_45 (by decide) ?_
  obtain ⟨g42, h⟩ := gd_some h
  obtain ⟨S43, eS43, h⟩ := lt_some h
  refine hp_i C hW hS x0 8 g42.2 g42.1 q_P (by decide) rfl rfl rfl (lkF C kf_P_134) eS43 d_P_init_46 (fun H locs hW hS => ?_)
  have hkS43 : S43.2.2.2 = S40.2.2.2 := by rw [eS43]; rfl
  refine ac_w hkS43 ?_
  have hT := hT.k hkS43
  have hF := hF.kL hkS43
  refine lv_iconst (v := 0) hx hb d_P_init_49 (by decide) ?_
  obtain ⟨v44, ev44, h⟩ := lt_some h
  refine lt_i_n (lv' := [(1, .int (v44)), (0, .ref (ad x0))]) C d_P_init_50 rfl hl (by decide) ev44 rfl (fun ls hl => ?_)
  exact w_P_init_51 C hnm n n x0 v44 h hT hW hS (lv_sub hl [1, 0] rfl)
set_option maxHeartbeats 4000000 in
set_option maxRecDepth 100000 in
theorem w_P_init_31 {ad0 ad : Nat → Nat} {S0 : HS} (C : CB p s m args c meth b_P_init "TwoLevelParser" 2 none D cA z ac) (hnm : meth.name = "<init>") (n : Nat) {S' : HS} (x0 : Nat) (y0 : Nat) (y1 : Nat) {S : HS} {H : Heap} {locs : List Loc} {ls : Array Slot} (h : f_P_init_b31 n x0 y0 y1 S = some S') (hT : AC S0 ad0 S ad) (hW : HW D cA z ac E0 ad S H) (hS : va_S (zA z) s.heap H locs) (hl : lv_has ls 2 [(0, .ref (ad x0))]) : GA p l e 2 s m args below meth c D cA z ac E0 ad0 S0 (fun _ => none) S' S H locs (F0 m 31 ls [.ref (ad y0), .ref (ad y1)]) := by
  obtain ⟨⟨hx, hb, hml, hown, hts⟩, hK, hr, hlo⟩ := id C
  have hF : MN S S' := m_P_init_31 h
  unfold f_P_init_b31 at h
  obtain ⟨g30, h⟩ := gd_some h
  obtain ⟨g32, h⟩ := gd_some h
  obtain ⟨S31, eS31, h⟩ := lt_some h
  refine hp_fin (j := y0) C hnm hW hS y1 3 g30.2 g30.1 q_P (by decide) rfl rfl kf_P_124 rfl rfl rfl rfl (Or.inl g32) rfl eS31 d_P_init_31 (fun H locs hW hS => ?_)
  have hkS31 : S31.2.2.2 = S.2.2.2 := by rw [eS31]; rfl
  refine ac_w hkS31 ?_
  have hT := hT.k hkS31
  have hF := hF.kL hkS31
  refine lv_aload_n hx hb d_P_init_34 rfl (lv_at hl 0 rfl) ?_
  refine lv_sipush (v := 4200) hx hb d_P_init_35 (by decide) ?_
  obtain ⟨i33, ei33, h⟩ := lt_some h
  obtain ⟨g34, h⟩ := gd_some h
  obtain ⟨g35, h⟩ := gd_some h
  obtain ⟨g36, h⟩ := gd_some h
  obtain ⟨S37, eS37, h⟩ := lt_some h
  have hX := hW
  refine hn_q (i := i33) (t := 5) (n := 4200) C hW hS hT (hW.zl g35) g36.1 (by decide) g36.2.1 g36.2.2.1 g36.2.2.2 (fun _ => rfl) eS37 rfl kc_P_128 hK.2.2.2.2.2.2.2.2 (by decide) rfl (by decide) (MN.le (m_P_init_41 h) _) d_P_init_38 (fun ad38 H hA hT hW hS => ?_)
  have hl : lv_has ls 2 [(0, .ref (ad38 x0))] := by rw [hA x0 g34]; exact lv_sub hl [0] rfl
  rw [← hA x0 g34]
  exact w_P_init_41 C hnm n x0 i33 x0 h hT hW hS (lv_sub hl [0] rfl)
set_option maxHeartbeats 4000000 in
set_option maxRecDepth 100000 in
theorem w_P_init_22 {ad0 ad : Nat → Nat} {S0 : HS} (C : CB p s m args c meth b_P_init "TwoLevelParser" 2 none D cA z ac) (hnm : meth.name = "<init>") (n : Nat) {S' : HS} (x0 : Nat) (y0 : Nat) (y1 : Nat) {S : HS} {H : Heap} {locs : List Loc} {ls : Array Slot} (h : f_P_init_b22 n x0 y0 y1 S = some S') (hT : AC S0 ad0 S ad) (hW : HW D cA z ac E0 ad S H) (hS : va_S (zA z) s.heap H locs) (hl : lv_has ls 2 [(0, .ref (ad x0))]) : GA p l e 2 s m args below meth c D cA z ac E0 ad0 S0 (fun _ => none) S' S H locs (F0 m 22 ls [.ref (ad y0), .ref (ad y1)]) := by
  obtain ⟨⟨hx, hb, hml, hown, hts⟩, hK, hr, hlo⟩ := id C
  have hF : MN S S' := m_P_init_22 h
  unfold f_P_init_b22 at h
  obtain ⟨g21, h⟩ := gd_some h
  obtain ⟨g23, h⟩ := gd_some h
  obtain ⟨S22, eS22, h⟩ := lt_some h
  refine hp_fin (j := y0) C hnm hW hS y1 1 g21.2 g21.1 q_P (by decide) rfl rfl kf_P_118 rfl rfl rfl rfl (Or.inl g23) rfl eS22 d_P_init_22 (fun H locs hW hS => ?_)
  have hkS22 : S22.2.2.2 = S.2.2.2 := by rw [eS22]; rfl
  refine ac_w hkS22 ?_
  have hT := hT.k hkS22
  have hF := hF.kL hkS22
  refine lv_aload_n hx hb d_P_init_25 rfl (lv_at hl 0 rfl) ?_
  refine lv_bipush (v := 64) hx hb d_P_init_26 (by decide) ?_
  obtain ⟨i24, ei24, h⟩ := lt_some h
  obtain ⟨g25, h⟩ := gd_some h
  obtain ⟨g26, h⟩ := gd_some h
  obtain ⟨g27, h⟩ := gd_some h
  obtain ⟨S28, eS28, h⟩ := lt_some h
  have hX := hW
  refine hn_q (i := i24) (t := 4) (n := 64) C hW hS hT (hW.zl g26) g27.1 (by decide) g27.2.1 g27.2.2.1 g27.2.2.2 (fun _ => rfl) eS28 rfl kc_P_122 hK.2.2.2.2.2.2.2.1 (by decide) rfl (by decide) (MN.le (m_P_init_31 h) _) d_P_init_28 (fun ad29 H hA hT hW hS => ?_)
  have hl : lv_has ls 2 [(0, .ref (ad29 x0))] := by rw [hA x0 g25]; exact lv_sub hl [0] rfl
  rw [← hA x0 g25]
  exact w_P_init_31 C hnm n x0 i24 x0 h hT hW hS (lv_sub hl [0] rfl)
set_option maxHeartbeats 4000000 in
set_option maxRecDepth 100000 in
theorem w_P_init_12 {ad0 ad : Nat → Nat} {S0 : HS} (C : CB p s m args c meth b_P_init "TwoLevelParser" 2 none D cA z ac) (hnm : meth.name = "<init>") (n : Nat) {S' : HS} (x0 : Nat) (y0 : Nat) (y1 : Nat) {S : HS} {H : Heap} {locs : List Loc} {ls : Array Slot} (h : f_P_init_b12 n x0 y0 y1 S = some S') (hT : AC S0 ad0 S ad) (hW : HW D cA z ac E0 ad S H) (hS : va_S (zA z) s.heap H locs) (hl : lv_has ls 2 [(0, .ref (ad x0))]) : GA p l e 2 s m args below meth c D cA z ac E0 ad0 S0 (fun _ => none) S' S H locs (F0 m 12 ls [.ref (ad y0), .ref (ad y1)]) := by
  obtain ⟨⟨hx, hb, hml, hown, hts⟩, hK, hr, hlo⟩ := id C
  have hF : MN S S' := m_P_init_12 h
  unfold f_P_init_b12 at h
  obtain ⟨g12, h⟩ := gd_some h
  obtain ⟨g14, h⟩ := gd_some h
  obtain ⟨S13, eS13, h⟩ := lt_some h
  refine hp_fin (j := y0) C hnm hW hS y1 0 g12.2 g12.1 q_P (by decide) rfl rfl kf_P_112 rfl rfl rfl rfl (Or.inl g14) rfl eS13 d_P_init_12 (fun H locs hW hS => ?_)
  have hkS13 : S13.2.2.2 = S.2.2.2 := by rw [eS13]; rfl
  refine ac_w hkS13 ?_
  have hT := hT.k hkS13
  have hF := hF.kL hkS13
  refine lv_aload_n hx hb d_P_init_15 rfl (lv_at hl 0 rfl) ?_
  refine lv_sipush (v := 4200) hx hb d_P_init_16 (by decide) ?_
  obtain ⟨i15, ei15, h⟩ := lt_some h
  obtain ⟨g16, h⟩ := gd_some h
  obtain ⟨g17, h⟩ := gd_some h
  obtain ⟨g18, h⟩ := gd_some h
  obtain ⟨S19, eS19, h⟩ := lt_some h
  have hX := hW
  refine hn_q (i := i15) (t := 3) (n := 4200) C hW hS hT (hW.zl g17) g18.1 (by decide) g18.2.1 g18.2.2.1 g18.2.2.2 (fun _ => rfl) eS19 rfl kc_P_116 hK.2.2.2.2.2.2.1 (by decide) rfl (by decide) (MN.le (m_P_init_22 h) _) d_P_init_19 (fun ad20 H hA hT hW hS => ?_)
  have hl : lv_has ls 2 [(0, .ref (ad20 x0))] := by rw [hA x0 g16]; exact lv_sub hl [0] rfl
  rw [← hA x0 g16]
  exact w_P_init_22 C hnm n x0 i15 x0 h hT hW hS (lv_sub hl [0] rfl)
set_option maxHeartbeats 4000000 in
set_option maxRecDepth 100000 in
theorem w_P_init_8 {ad0 ad : Nat → Nat} {S0 : HS} (C : CB p s m args c meth b_P_init "TwoLevelParser" 2 none D cA z ac) (hnm : meth.name = "<init>") (n : Nat) {S' : HS} (x0 : Nat) (y0 : Nat) (y1 : Nat) {S : HS} {H : Heap} {locs : List Loc} {ls : Array Slot} (h : f_P_init_b8 n x0 y0 y1 S = some S') (hT : AC S0 ad0 S ad) (hW : HW D cA z ac E0 ad S H) (hS : va_S (zA z) s.heap H locs) (hl : lv_has ls 2 [(0, .ref (ad x0))]) : GA p l e 2 s m args below meth c D cA z ac E0 ad0 S0 (fun _ => none) S' S H locs (F0 m 8 ls [.ref (ad y0), .ref (ad y1)]) := by
  obtain ⟨⟨hx, hb, hml, hown, hts⟩, hK, hr, hlo⟩ := id C
  have hF : MN S S' := m_P_init_8 h
  unfold f_P_init_b8 at h
  refine lv_dup hx hb d_P_init_8 rfl ?_
  obtain ⟨g7, h⟩ := gd_some h
  obtain ⟨g8, h⟩ := gd_some h
  obtain ⟨g9, h⟩ := gd_some h
  obtain ⟨S10, eS10, h⟩ := ob_some h
  have hX := hW
  refine hx_IA (i := y0) (As := []) (rest := [.ref (ad y0), .ref (ad y1)]) C hW hS hT (s_X_init y0 eS10) (m_X_init eS10) (Or.inr ⟨_, km_P_111⟩) kv_X_init kn_X kw_X_init kd_X_init rfl ⟨(Nat.le_of_ble_eq_true rfl), (Nat.le_of_ble_eq_true rfl)⟩ (MN.le (m_P_init_12 h) _) rfl hl.1 rfl (Nat.le_of_ble_eq_true rfl) d_P_init_9 (fun ad11 H locs hA hT hW hS => ?_)
  have hl : lv_has ls 2 [(0, .ref (ad11 x0))] := by rw [hA x0 g7]; exact lv_sub hl [0] rfl
  rw [← hA y0 g8]
  rw [← hA y1 g9]
  exact w_P_init_12 C hnm n x0 y0 y1 h hT hW hS (lv_sub hl [0] rfl)
set_option maxHeartbeats 4000000 in
set_option maxRecDepth 100000 in
theorem s_P_init (n : Nat) (x0 : Nat) {ad : Nat → Nat} {S : HS} {S' : HS} (h : f_P_init n x0 S = some S') : Met l y_P_init (.code y_P_init b_P_init 2 none :: lw_g) (rmD 2 (gC S' - gC S) (gN S' - gN S)) (PcH D cA z ac E0 ad [.ref (ad x0)] S) (QA D cA z ac E0 ad S (fun _ => none) S') (gC S' - gC S) (gN S' - gN S) (zA z) := by
  refine Met.ofHA (own := "TwoLevelParser") (by decide) rfl (Nat.le_of_ble_eq_true rfl) ?_
  intro p e s m args below meth c H ls C hnm hW hS hl
  have hl : lv_has ls 2 [(0, .ref (ad x0))] := hl
  obtain ⟨⟨hx, hb, hml, hown, hts⟩, hK, hr, hlo⟩ := id C
  have hF : MN S S' := m_P_init h
  have hT : AC S ad S ad := AC.rf
  unfold f_P_init at h
  refine lv_aload_n hx hb d_P_init_0 rfl (lv_at hl 0 rfl) ?_
  refine W.objInit hx hb hown (hts _ km_P_103) (hts _ ko_ins) (hts _ ko_code) rfl (by rw [hml]; exact hl.1) rfl d_P_init_1 (Nat.le_of_ble_eq_true rfl) (Nat.le_of_ble_eq_true rfl) ?_
  refine lv_aload_n hx hb d_P_init_4 rfl (lv_at hl 0 rfl) ?_
  obtain ⟨i1, ei1, h⟩ := lt_some h
  obtain ⟨g2, h⟩ := gd_some h
  obtain ⟨g3, h⟩ := gd_some h
  obtain ⟨g4, h⟩ := gd_some h
  obtain ⟨S5, eS5, h⟩ := lt_some h
  have hX := hW
  refine hn_o (i := i1) C hW hS hT (hW.zl g3) g4.1 q_X g4.2.1 g4.2.2 (fun _ => rfl) eS5 kc_P_109 kt_X kn_X (MN.le (m_P_init_8 h) _) d_P_init_5 (fun ad6 H hA hT hW hS => ?_)
  have hl : lv_has ls 2 [(0, .ref (ad6 x0))] := by rw [hA x0 g2]; exact lv_sub hl [0] rfl
  rw [← hA x0 g2]
  exact w_P_init_8 C hnm n x0 i1 x0 h hT hW hS (lv_sub hl [0] rfl)
end WA
def f_M_init_b178 (y0 : Nat) (y1 : Nat) (S : HS) : Option HS :=
  gd (kd y1 = 5 ∧ gD S y1 = true) <|
  gd (gD S y0 = true) <|
  lt (sX S y1 30 (some y0)) fun S181 =>
  some S181
def f_M_init_b170 (x0 : Nat) (y0 : Nat) (y1 : Nat) (S : HS) : Option HS :=
  gd (kd y1 = 5 ∧ gD S y1 = true) <|
  gd (gD S y0 = true) <|
  lt (sX S y1 29 (some y0)) fun S172 =>
  lt 230 fun i174 =>
  gd (gD S172 x0 = true) <|
  gd (gD S172 x0 = true) <|
  gd (kd i174 = 11 ∧ ln i174 = 33000 ∧ gD S172 i174 = false ∧ ¬ (300 ≤ i174 ∧ i174 < 600)) <|
  lt (sN S172 i174 33000) fun S178 =>
  f_M_init_b178 i174 x0 S178
def f_M_init_b162 (x0 : Nat) (y0 : Nat) (y1 : Nat) (S : HS) : Option HS :=
  gd (kd y1 = 5 ∧ gD S y1 = true) <|
  gd (gD S y0 = true) <|
  lt (sX S y1 28 (some y0)) fun S163 =>
  lt 229 fun i165 =>
  gd (gD S163 x0 = true) <|
  gd (gD S163 x0 = true) <|
  gd (kd i165 = 10 ∧ ln i165 = 33000 ∧ gD S163 i165 = false ∧ ¬ (300 ≤ i165 ∧ i165 < 600)) <|
  lt (sN S163 i165 33000) fun S169 =>
  f_M_init_b170 x0 i165 x0 S169
def f_M_init_b153 (x0 : Nat) (y0 : Nat) (y1 : Nat) (S : HS) : Option HS :=
  gd (kd y1 = 5 ∧ gD S y1 = true) <|
  gd (gD S y0 = true) <|
  lt (sX S y1 27 (some y0)) fun S154 =>
  lt 228 fun i156 =>
  gd (gD S154 x0 = true) <|
  gd (gD S154 x0 = true) <|
  gd (kd i156 = 12 ∧ ln i156 = 8192 ∧ gD S154 i156 = false ∧ ¬ (300 ≤ i156 ∧ i156 < 600)) <|
  lt (sN S154 i156 8192) fun S160 =>
  f_M_init_b162 x0 i156 x0 S160
def f_M_init_b144 (x0 : Nat) (y0 : Nat) (y1 : Nat) (S : HS) : Option HS :=
  gd (kd y1 = 5 ∧ gD S y1 = true) <|
  gd (gD S y0 = true) <|
  lt (sX S y1 26 (some y0)) fun S145 =>
  lt 227 fun i147 =>
  gd (gD S145 x0 = true) <|
  gd (gD S145 x0 = true) <|
  gd (kd i147 = 12 ∧ ln i147 = 8192 ∧ gD S145 i147 = false ∧ ¬ (300 ≤ i147 ∧ i147 < 600)) <|
  lt (sN S145 i147 8192) fun S151 =>
  f_M_init_b153 x0 i147 x0 S151
def f_M_init_b135 (x0 : Nat) (y0 : Nat) (y1 : Nat) (S : HS) : Option HS :=
  gd (kd y1 = 5 ∧ gD S y1 = true) <|
  gd (gD S y0 = true) <|
  lt (sX S y1 25 (some y0)) fun S136 =>
  lt 226 fun i138 =>
  gd (gD S136 x0 = true) <|
  gd (gD S136 x0 = true) <|
  gd (kd i138 = 11 ∧ ln i138 = 8192 ∧ gD S136 i138 = false ∧ ¬ (300 ≤ i138 ∧ i138 < 600)) <|
  lt (sN S136 i138 8192) fun S142 =>
  f_M_init_b144 x0 i138 x0 S142
def f_M_init_b126 (x0 : Nat) (y0 : Nat) (y1 : Nat) (S : HS) : Option HS :=
  gd (kd y1 = 5 ∧ gD S y1 = true) <|
  gd (gD S y0 = true) <|
  lt (sX S y1 24 (some y0)) fun S127 =>
  lt 225 fun i129 =>
  gd (gD S127 x0 = true) <|
  gd (gD S127 x0 = true) <|
  gd (kd i129 = 11 ∧ ln i129 = 8192 ∧ gD S127 i129 = false ∧ ¬ (300 ≤ i129 ∧ i129 < 600)) <|
  lt (sN S127 i129 8192) fun S133 =>
  f_M_init_b135 x0 i129 x0 S133
def f_M_init_b117 (x0 : Nat) (y0 : Nat) (y1 : Nat) (S : HS) : Option HS :=
  gd (kd y1 = 5 ∧ gD S y1 = true) <|
  gd (gD S y0 = true) <|
  lt (sX S y1 23 (some y0)) fun S118 =>
  lt 224 fun i120 =>
  gd (gD S118 x0 = true) <|
  gd (gD S118 x0 = true) <|
  gd (kd i120 = 11 ∧ ln i120 = 8192 ∧ gD S118 i120 = false ∧ ¬ (300 ≤ i120 ∧ i120 < 600)) <|
  lt (sN S118 i120 8192) fun S124 =>
  f_M_init_b126 x0 i120 x0 S124
def f_M_init_b108 (x0 : Nat) (y0 : Nat) (y1 : Nat) (S : HS) : Option HS :=
  gd (kd y1 = 5 ∧ gD S y1 = true) <|
  gd (gD S y0 = true) <|
  lt (sX S y1 22 (some y0)) fun S109 =>
  lt 223 fun i111 =>
  gd (gD S109 x0 = true) <|
  gd (gD S109 x0 = true) <|
  gd (kd i111 = 11 ∧ ln i111 = 8192 ∧ gD S109 i111 = false ∧ ¬ (300 ≤ i111 ∧ i111 < 600)) <|
  lt (sN S109 i111 8192) fun S115 =>
  f_M_init_b117 x0 i111 x0 S115
def f_M_init_b99 (x0 : Nat) (y0 : Nat) (y1 : Nat) (S : HS) : Option HS :=
  gd (kd y1 = 5 ∧ gD S y1 = true) <|
  gd (gD S y0 = true) <|
  lt (sX S y1 21 (some y0)) fun S100 =>
  lt 222 fun i102 =>
  gd (gD S100 x0 = true) <|
  gd (gD S100 x0 = true) <|
  gd (kd i102 = 11 ∧ ln i102 = 8192 ∧ gD S100 i102 = false ∧ ¬ (300 ≤ i102 ∧ i102 < 600)) <|
  lt (sN S100 i102 8192) fun S106 =>
  f_M_init_b108 x0 i102 x0 S106
def f_M_init_b90 (x0 : Nat) (y0 : Nat) (y1 : Nat) (S : HS) : Option HS :=
  gd (kd y1 = 5 ∧ gD S y1 = true) <|
  gd (gD S y0 = true) <|
  lt (sX S y1 20 (some y0)) fun S91 =>
  lt 221 fun i93 =>
  gd (gD S91 x0 = true) <|
  gd (gD S91 x0 = true) <|
  gd (kd i93 = 11 ∧ ln i93 = 8192 ∧ gD S91 i93 = false ∧ ¬ (300 ≤ i93 ∧ i93 < 600)) <|
  lt (sN S91 i93 8192) fun S97 =>
  f_M_init_b99 x0 i93 x0 S97
def f_M_init_b81 (x0 : Nat) (y0 : Nat) (y1 : Nat) (S : HS) : Option HS :=
  gd (kd y1 = 5 ∧ gD S y1 = true) <|
  gd (gD S y0 = true) <|
  lt (sX S y1 18 (some y0)) fun S82 =>
  lt 220 fun i84 =>
  gd (gD S82 x0 = true) <|
  gd (gD S82 x0 = true) <|
  gd (kd i84 = 11 ∧ ln i84 = 8192 ∧ gD S82 i84 = false ∧ ¬ (300 ≤ i84 ∧ i84 < 600)) <|
  lt (sN S82 i84 8192) fun S88 =>
  f_M_init_b90 x0 i84 x0 S88
def f_M_init_b72 (x0 : Nat) (y0 : Nat) (y1 : Nat) (S : HS) : Option HS :=
  gd (kd y1 = 5 ∧ gD S y1 = true) <|
  gd (gD S y0 = true) <|
  lt (sX S y1 17 (some y0)) fun S73 =>
  lt 218 fun i75 =>
  gd (gD S73 x0 = true) <|
  gd (gD S73 x0 = true) <|
  gd (kd i75 = 11 ∧ ln i75 = 512 ∧ gD S73 i75 = false ∧ ¬ (300 ≤ i75 ∧ i75 < 600)) <|
  lt (sN S73 i75 512) fun S79 =>
  f_M_init_b81 x0 i75 x0 S79
def f_M_init_b63 (x0 : Nat) (y0 : Nat) (y1 : Nat) (S : HS) : Option HS :=
  gd (kd y1 = 5 ∧ gD S y1 = true) <|
  gd (gD S y0 = true) <|
  lt (sX S y1 16 (some y0)) fun S64 =>
  lt 217 fun i66 =>
  gd (gD S64 x0 = true) <|
  gd (gD S64 x0 = true) <|
  gd (kd i66 = 12 ∧ ln i66 = 512 ∧ gD S64 i66 = false ∧ ¬ (300 ≤ i66 ∧ i66 < 600)) <|
  lt (sN S64 i66 512) fun S70 =>
  f_M_init_b72 x0 i66 x0 S70
def f_M_init_b55 (x0 : Nat) (y0 : Nat) (y1 : Nat) (S : HS) : Option HS :=
  gd (kd y1 = 5 ∧ gD S y1 = true) <|
  gd (gD S y0 = true) <|
  lt (sX S y1 15 (some y0)) fun S55 =>
  lt 216 fun i57 =>
  gd (gD S55 x0 = true) <|
  gd (gD S55 x0 = true) <|
  gd (kd i57 = 12 ∧ ln i57 = 64 ∧ gD S55 i57 = false ∧ ¬ (300 ≤ i57 ∧ i57 < 600)) <|
  lt (sN S55 i57 64) fun S61 =>
  f_M_init_b63 x0 i57 x0 S61
def f_M_init_b47 (x0 : Nat) (y0 : Nat) (y1 : Nat) (S : HS) : Option HS :=
  gd (kd y1 = 5 ∧ gD S y1 = true) <|
  gd (gD S y0 = true) <|
  lt (sX S y1 14 (some y0)) fun S46 =>
  lt 215 fun i48 =>
  gd (gD S46 x0 = true) <|
  gd (gD S46 x0 = true) <|
  gd (kd i48 = 11 ∧ ln i48 = 64 ∧ gD S46 i48 = false ∧ ¬ (300 ≤ i48 ∧ i48 < 600)) <|
  lt (sN S46 i48 64) fun S52 =>
  f_M_init_b55 x0 i48 x0 S52
def f_M_init_b39 (x0 : Nat) (y0 : Nat) (y1 : Nat) (S : HS) : Option HS :=
  gd (kd y1 = 5 ∧ gD S y1 = true) <|
  gd (gD S y0 = true) <|
  lt (sX S y1 13 (some y0)) fun S37 =>
  lt 214 fun i39 =>
  gd (gD S37 x0 = true) <|
  gd (gD S37 x0 = true) <|
  gd (kd i39 = 11 ∧ ln i39 = 64 ∧ gD S37 i39 = false ∧ ¬ (300 ≤ i39 ∧ i39 < 600)) <|
  lt (sN S37 i39 64) fun S43 =>
  f_M_init_b47 x0 i39 x0 S43
def f_M_init_b31 (x0 : Nat) (y0 : Nat) (y1 : Nat) (S : HS) : Option HS :=
  gd (kd y1 = 5 ∧ gD S y1 = true) <|
  gd (gD S y0 = true) <|
  lt (sX S y1 12 (some y0)) fun S28 =>
  lt 213 fun i30 =>
  gd (gD S28 x0 = true) <|
  gd (gD S28 x0 = true) <|
  gd (kd i30 = 11 ∧ ln i30 = 64 ∧ gD S28 i30 = false ∧ ¬ (300 ≤ i30 ∧ i30 < 600)) <|
  lt (sN S28 i30 64) fun S34 =>
  f_M_init_b39 x0 i30 x0 S34
def f_M_init_b23 (x0 : Nat) (y0 : Nat) (y1 : Nat) (S : HS) : Option HS :=
  gd (kd y1 = 5 ∧ gD S y1 = true) <|
  gd (gD S y0 = true) <|
  lt (sX S y1 11 (some y0)) fun S19 =>
  lt 212 fun i21 =>
  gd (gD S19 x0 = true) <|
  gd (gD S19 x0 = true) <|
  gd (kd i21 = 11 ∧ ln i21 = 64 ∧ gD S19 i21 = false ∧ ¬ (300 ≤ i21 ∧ i21 < 600)) <|
  lt (sN S19 i21 64) fun S25 =>
  f_M_init_b31 x0 i21 x0 S25
def f_M_init_b10 (x0 : Nat) (y0 : Nat) (y1 : Nat) (S : HS) : Option HS :=
  gd (kd y1 = 5 ∧ gD S y1 = true) <|
  gd (gD S y0 = true) <|
  lt (sX S y1 1 (some y0)) fun S8 =>
  gd (kd x0 = 5 ∧ gD S8 x0 = true) <|
  lt (sF S8 x0 4 (-1 : Int32)) fun S11 =>
  lt 211 fun i12 =>
  gd (gD S11 x0 = true) <|
  gd (gD S11 x0 = true) <|
  gd (kd i12 = 11 ∧ ln i12 = 64 ∧ gD S11 i12 = false ∧ ¬ (300 ≤ i12 ∧ i12 < 600)) <|
  lt (sN S11 i12 64) fun S16 =>
  f_M_init_b23 x0 i12 x0 S16
def f_M_init (x0 : Nat) (S : HS) : Option HS :=
  lt 201 fun i1 =>
  gd (gD S x0 = true) <|
  gd (gD S x0 = true) <|
  gd (kd i1 = 10 ∧ ln i1 = 8192 ∧ gD S i1 = false ∧ ¬ (300 ≤ i1 ∧ i1 < 600)) <|
  lt (sN S i1 8192) fun S5 =>
  f_M_init_b10 x0 i1 x0 S5
set_option maxHeartbeats 4000000 in
set_option maxRecDepth 100000 in
theorem m_M_init_178 {S' : HS} {y0 : Nat} {y1 : Nat} {S : HS} (h : f_M_init_b178 y0 y1 S = some S') : MN S S' := by
  unfold f_M_init_b178 at h
  have hm : MN S S := MN.rf
  obtain ⟨g180, h⟩ := gd_some h
  obtain ⟨g182, h⟩ := gd_some h
  obtain ⟨S181, eS181, h⟩ := lt_some h
  have hm := hm.kR (show S181.2.2.2 = S.2.2.2 from by rw [eS181]; rfl)
  have h := Option.some.inj h
  subst h
  exact hm
set_option maxHeartbeats 4000000 in
set_option maxRecDepth 100000 in
theorem m_M_init_170 {S' : HS} {x0 : Nat} {y0 : Nat} {y1 : Nat} {S : HS} (h : f_M_init_b170 x0 y0 y1 S = some S') : MN S S' := by
  unfold f_M_init_b170 at h
  have hm : MN S S := MN.rf
  obtain ⟨g171, h⟩ := gd_some h
  obtain ⟨g173, h⟩ := gd_some h
  obtain ⟨S172, eS172, h⟩ := lt_some h
  have hm := hm.kR (show S172.2.2.2 = S.2.2.2 from by rw [eS172]; rfl)
  obtain ⟨i174, ei174, h⟩ := lt_some h
  obtain ⟨g175, h⟩ := gd_some h
  obtain ⟨g176, h⟩ := gd_some h
  obtain ⟨g177, h⟩ := gd_some h
  obtain ⟨S178, eS178, h⟩ := lt_some h
  have hm := hm.tr (MN.nw eS178)
  exact hm.tr (m_M_init_178 h)
set_option maxHeartbeats 4000000 in
set_option maxRecDepth 100000 in
theorem m_M_init_162 {S' : HS} {x0 : Nat} {y0 : Nat} {y1 : Nat} {S : HS} (h : f_M_init_b162 x0 y0 y1 S = some S') : MN S S' := by
  unfold f_M_init_b162 at h
  have hm : MN S S := MN.rf
  obtain ⟨g162, h⟩ := gd_some h
  obtain ⟨g164, h⟩ := gd_some h
  obtain ⟨S163, eS163, h⟩ := lt_some h
  have hm := hm.kR (show S163.2.2.2 = S.2.2.2 from by rw [eS163]; rfl)
  obtain ⟨i165, ei165, h⟩ := lt_some h
  obtain ⟨g166, h⟩ := gd_some h
  obtain ⟨g167, h⟩ := gd_some h
  obtain ⟨g168, h⟩ := gd_some h
  obtain ⟨S169, eS169, h⟩ := lt_some h
  have hm := hm.tr (MN.nw eS169)
  exact hm.tr (m_M_init_170 h)
set_option maxHeartbeats 4000000 in
set_option maxRecDepth 100000 in
theorem m_M_init_153 {S' : HS} {x0 : Nat} {y0 : Nat} {y1 : Nat} {S : HS} (h : f_M_init_b153 x0 y0 y1 S = some S') : MN S S' := by
  unfold f_M_init_b153 at h
  have hm : MN S S := MN.rf
  obtain ⟨g153, h⟩ := gd_some h
  obtain ⟨g155, h⟩ := gd_some h
  obtain ⟨S154, eS154, h⟩ := lt_some h
  have hm := hm.kR (show S154.2.2.2 = S.2.2.2 from by rw [eS154]; rfl)
  obtain ⟨i156, ei156, h⟩ := lt_some h
  obtain ⟨g157, h⟩ := gd_some h
  obtain ⟨g158, h⟩ := gd_some h
  obtain ⟨g159, h⟩ := gd_some h
  obtain ⟨S160, eS160, h⟩ := lt_some h
  have hm := hm.tr (MN.nw eS160)
  exact hm.tr (m_M_init_162 h)
set_option maxHeartbeats 4000000 in
set_option maxRecDepth 100000 in
theorem m_M_init_144 {S' : HS} {x0 : Nat} {y0 : Nat} {y1 : Nat} {S : HS} (h : f_M_init_b144 x0 y0 y1 S = some S') : MN S S' := by
  unfold f_M_init_b144 at h
  have hm : MN S S := MN.rf
  obtain ⟨g144, h⟩ := gd_some h
  obtain ⟨g146, h⟩ := gd_some h
  obtain ⟨S145, eS145, h⟩ := lt_some h
  have hm := hm.kR (show S145.2.2.2 = S.2.2.2 from by rw [eS145]; rfl)
  obtain ⟨i147, ei147, h⟩ := lt_some h
  obtain ⟨g148, h⟩ := gd_some h
  obtain ⟨g149, h⟩ := gd_some h
  obtain ⟨g150, h⟩ := gd_some h
  obtain ⟨S151, eS151, h⟩ := lt_some h
  have hm := hm.tr (MN.nw eS151)
  exact hm.tr (m_M_init_153 h)
set_option maxHeartbeats 4000000 in
set_option maxRecDepth 100000 in
theorem m_M_init_135 {S' : HS} {x0 : Nat} {y0 : Nat} {y1 : Nat} {S : HS} (h : f_M_init_b135 x0 y0 y1 S = some S') : MN S S' := by
  unfold f_M_init_b135 at h
  have hm : MN S S := MN.rf
  obtain ⟨g135, h⟩ := gd_some h
  obtain ⟨g137, h⟩ := gd_some h
  obtain ⟨S136, eS136, h⟩ := lt_some h
  have hm := hm.kR (show S136.2.2.2 = S.2.2.2 from by rw [eS136]; rfl)
  obtain ⟨i138, ei138, h⟩ := lt_some h
  obtain ⟨g139, h⟩ := gd_some h
  obtain ⟨g140, h⟩ := gd_some h
  obtain ⟨g141, h⟩ := gd_some h
  obtain ⟨S142, eS142, h⟩ := lt_some h
  have hm := hm.tr (MN.nw eS142)
  exact hm.tr (m_M_init_144 h)
set_option maxHeartbeats 4000000 in
set_option maxRecDepth 100000 in
theorem m_M_init_126 {S' : HS} {x0 : Nat} {y0 : Nat} {y1 : Nat} {S : HS} (h : f_M_init_b126 x0 y0 y1 S = some S') : MN S S' := by
  unfold f_M_init_b126 at h
  have hm : MN S S := MN.rf
  obtain ⟨g126, h⟩ := gd_some h
  obtain ⟨g128, h⟩ := gd_some h
  obtain ⟨S127, eS127, h⟩ := lt_some h
  have hm := hm.kR (show S127.2.2.2 = S.2.2.2 from by rw [eS127]; rfl)
  obtain ⟨i129, ei129, h⟩ := lt_some h
  obtain ⟨g130, h⟩ := gd_some h
  obtain ⟨g131, h⟩ := gd_some h
  obtain ⟨g132, h⟩ := gd_some h
  obtain ⟨S133, eS133, h⟩ := lt_some h
  have hm := hm.tr (MN.nw eS133)
  exact hm.tr (m_M_init_135 h)
set_option maxHeartbeats 4000000 in
set_option maxRecDepth 100000 in
theorem m_M_init_117 {S' : HS} {x0 : Nat} {y0 : Nat} {y1 : Nat} {S : HS} (h : f_M_init_b117 x0 y0 y1 S = some S') : MN S S' := by
  unfold f_M_init_b117 at h
  have hm : MN S S := MN.rf
  obtain ⟨g117, h⟩ := gd_some h
  obtain ⟨g119, h⟩ := gd_some h
  obtain ⟨S118, eS118, h⟩ := lt_some h
  have hm := hm.kR (show S118.2.2.2 = S.2.2.2 from by rw [eS118]; rfl)
  obtain ⟨i120, ei120, h⟩ := lt_some h
  obtain ⟨g121, h⟩ := gd_some h
  obtain ⟨g122, h⟩ := gd_some h
  obtain ⟨g123, h⟩ := gd_some h
  obtain ⟨S124, eS124, h⟩ := lt_some h
  have hm := hm.tr (MN.nw eS124)
  exact hm.tr (m_M_init_126 h)
set_option maxHeartbeats 4000000 in
set_option maxRecDepth 100000 in
theorem m_M_init_108 {S' : HS} {x0 : Nat} {y0 : Nat} {y1 : Nat} {S : HS} (h : f_M_init_b108 x0 y0 y1 S = some S') : MN S S' := by
  unfold f_M_init_b108 at h
  have hm : MN S S := MN.rf
  obtain ⟨g108, h⟩ := gd_some h
  obtain ⟨g110, h⟩ := gd_some h
  obtain ⟨S109, eS109, h⟩ := lt_some h
  have hm := hm.kR (show S109.2.2.2 = S.2.2.2 from by rw [eS109]; rfl)
  obtain ⟨i111, ei111, h⟩ := lt_some h
  obtain ⟨g112, h⟩ := gd_some h
  obtain ⟨g113, h⟩ := gd_some h
  obtain ⟨g114, h⟩ := gd_some h
  obtain ⟨S115, eS115, h⟩ := lt_some h
  have hm := hm.tr (MN.nw eS115)
  exact hm.tr (m_M_init_117 h)
set_option maxHeartbeats 4000000 in
set_option maxRecDepth 100000 in
theorem m_M_init_99 {S' : HS} {x0 : Nat} {y0 : Nat} {y1 : Nat} {S : HS} (h : f_M_init_b99 x0 y0 y1 S = some S') : MN S S' := by
  unfold f_M_init_b99 at h
  have hm : MN S S := MN.rf
  obtain ⟨g99, h⟩ := gd_some h
  obtain ⟨g101, h⟩ := gd_some h
  obtain ⟨S100, eS100, h⟩ := lt_some h
  have hm := hm.kR (show S100.2.2.2 = S.2.2.2 from by rw [eS100]; rfl)
  obtain ⟨i102, ei102, h⟩ := lt_some h
  obtain ⟨g103, h⟩ := gd_some h
  obtain ⟨g104, h⟩ := gd_some h
  obtain ⟨g105, h⟩ := gd_some h
  obtain ⟨S106, eS106, h⟩ := lt_some h
  have hm := hm.tr (MN.nw eS106)
  exact hm.tr (m_M_init_108 h)
set_option maxHeartbeats 4000000 in
set_option maxRecDepth 100000 in
theorem m_M_init_90 {S' : HS} {x0 : Nat} {y0 : Nat} {y1 : Nat} {S : HS} (h : f_M_init_b90 x0 y0 y1 S = some S') : MN S S' := by
  unfold f_M_init_b90 at h
  have hm : MN S S := MN.rf
  obtain ⟨g90, h⟩ := gd_some h
  obtain ⟨g92, h⟩ := gd_some h
  obtain ⟨S91, eS91, h⟩ := lt_some h
  have hm := hm.kR (show S91.2.2.2 = S.2.2.2 from by rw [eS91]; rfl)
  obtain ⟨i93, ei93, h⟩ := lt_some h
  obtain ⟨g94, h⟩ := gd_some h
  obtain ⟨g95, h⟩ := gd_some h
  obtain ⟨g96, h⟩ := gd_some h
  obtain ⟨S97, eS97, h⟩ := lt_some h
  have hm := hm.tr (MN.nw eS97)
  exact hm.tr (m_M_init_99 h)
set_option maxHeartbeats 4000000 in
set_option maxRecDepth 100000 in
theorem m_M_init_81 {S' : HS} {x0 : Nat} {y0 : Nat} {y1 : Nat} {S : HS} (h : f_M_init_b81 x0 y0 y1 S = some S') : MN S S' := by
  unfold f_M_init_b81 at h
  have hm : MN S S := MN.rf
  obtain ⟨g81, h⟩ := gd_some h
  obtain ⟨g83, h⟩ := gd_some h
  obtain ⟨S82, eS82, h⟩ := lt_some h
  have hm := hm.kR (show S82.2.2.2 = S.2.2.2 from by rw [eS82]; rfl)
  obtain ⟨i84, ei84, h⟩ := lt_some h
  obtain ⟨g85, h⟩ := gd_some h
  obtain ⟨g86, h⟩ := gd_some h
  obtain ⟨g87, h⟩ := gd_some h
  obtain ⟨S88, eS88, h⟩ := lt_some h
  have hm := hm.tr (MN.nw eS88)
  exact hm.tr (m_M_init_90 h)
set_option maxHeartbeats 4000000 in
set_option maxRecDepth 100000 in
theorem m_M_init_72 {S' : HS} {x0 : Nat} {y0 : Nat} {y1 : Nat} {S : HS} (h : f_M_init_b72 x0 y0 y1 S = some S') : MN S S' := by
  unfold f_M_init_b72 at h
  have hm : MN S S := MN.rf
  obtain ⟨g72, h⟩ := gd_some h
  obtain ⟨g74, h⟩ := gd_some h
  obtain ⟨S73, eS73, h⟩ := lt_some h
  have hm := hm.kR (show S73.2.2.2 = S.2.2.2 from by rw [eS73]; rfl)
  obtain ⟨i75, ei75, h⟩ := lt_some h
  obtain ⟨g76, h⟩ := gd_some h
  obtain ⟨g77, h⟩ := gd_some h
  obtain ⟨g78, h⟩ := gd_some h
  obtain ⟨S79, eS79, h⟩ := lt_some h
  have hm := hm.tr (MN.nw eS79)
  exact hm.tr (m_M_init_81 h)
set_option maxHeartbeats 4000000 in
set_option maxRecDepth 100000 in
theorem m_M_init_63 {S' : HS} {x0 : Nat} {y0 : Nat} {y1 : Nat} {S : HS} (h : f_M_init_b63 x0 y0 y1 S = some S') : MN S S' := by
  unfold f_M_init_b63 at h
  have hm : MN S S := MN.rf
  obtain ⟨g63, h⟩ := gd_some h
  obtain ⟨g65, h⟩ := gd_some h
  obtain ⟨S64, eS64, h⟩ := lt_some h
  have hm := hm.kR (show S64.2.2.2 = S.2.2.2 from by rw [eS64]; rfl)
  obtain ⟨i66, ei66, h⟩ := lt_some h
  obtain ⟨g67, h⟩ := gd_some h
  obtain ⟨g68, h⟩ := gd_some h
  obtain ⟨g69, h⟩ := gd_some h
  obtain ⟨S70, eS70, h⟩ := lt_some h
  have hm := hm.tr (MN.nw eS70)
  exact hm.tr (m_M_init_72 h)
set_option maxHeartbeats 4000000 in
set_option maxRecDepth 100000 in
theorem m_M_init_55 {S' : HS} {x0 : Nat} {y0 : Nat} {y1 : Nat} {S : HS} (h : f_M_init_b55 x0 y0 y1 S = some S') : MN S S' := by
  unfold f_M_init_b55 at h
  have hm : MN S S := MN.rf
  obtain ⟨g54, h⟩ := gd_some h
  obtain ⟨g56, h⟩ := gd_some h
  obtain ⟨S55, eS55, h⟩ := lt_some h
  have hm := hm.kR (show S55.2.2.2 = S.2.2.2 from by rw [eS55]; rfl)
  obtain ⟨i57, ei57, h⟩ := lt_some h
  obtain ⟨g58, h⟩ := gd_some h
  obtain ⟨g59, h⟩ := gd_some h
  obtain ⟨g60, h⟩ := gd_some h
  obtain ⟨S61, eS61, h⟩ := lt_some h
  have hm := hm.tr (MN.nw eS61)
  exact hm.tr (m_M_init_63 h)
set_option maxHeartbeats 4000000 in
set_option maxRecDepth 100000 in
theorem m_M_init_47 {S' : HS} {x0 : Nat} {y0 : Nat} {y1 : Nat} {S : HS} (h : f_M_init_b47 x0 y0 y1 S = some S') : MN S S' := by
  unfold f_M_init_b47 at h
  have hm : MN S S := MN.rf
  obtain ⟨g45, h⟩ := gd_some h
  obtain ⟨g47, h⟩ := gd_some h
  obtain ⟨S46, eS46, h⟩ := lt_some h
  have hm := hm.kR (show S46.2.2.2 = S.2.2.2 from by rw [eS46]; rfl)
  obtain ⟨i48, ei48, h⟩ := lt_some h
  obtain ⟨g49, h⟩ := gd_some h
  obtain ⟨g50, h⟩ := gd_some h
  obtain ⟨g51, h⟩ := gd_some h
  obtain ⟨S52, eS52, h⟩ := lt_some h
  have hm := hm.tr (MN.nw eS52)
  exact hm.tr (m_M_init_55 h)
set_option maxHeartbeats 4000000 in
set_option maxRecDepth 100000 in
theorem m_M_init_39 {S' : HS} {x0 : Nat} {y0 : Nat} {y1 : Nat} {S : HS} (h : f_M_init_b39 x0 y0 y1 S = some S') : MN S S' := by
  unfold f_M_init_b39 at h
  have hm : MN S S := MN.rf
  obtain ⟨g36, h⟩ := gd_some h
  obtain ⟨g38, h⟩ := gd_some h
  obtain ⟨S37, eS37, h⟩ := lt_some h
  have hm := hm.kR (show S37.2.2.2 = S.2.2.2 from by rw [eS37]; rfl)
  obtain ⟨i39, ei39, h⟩ := lt_some h
  obtain ⟨g40, h⟩ := gd_some h
  obtain ⟨g41, h⟩ := gd_some h
  obtain ⟨g42, h⟩ := gd_some h
  obtain ⟨S43, eS43, h⟩ := lt_some h
  have hm := hm.tr (MN.nw eS43)
  exact hm.tr (m_M_init_47 h)
set_option maxHeartbeats 4000000 in
set_option maxRecDepth 100000 in
theorem m_M_init_31 {S' : HS} {x0 : Nat} {y0 : Nat} {y1 : Nat} {S : HS} (h : f_M_init_b31 x0 y0 y1 S = some S') : MN S S' := by
  unfold f_M_init_b31 at h
  have hm : MN S S := MN.rf
  obtain ⟨g27, h⟩ := gd_some h
  obtain ⟨g29, h⟩ := gd_some h
  obtain ⟨S28, eS28, h⟩ := lt_some h
  have hm := hm.kR (show S28.2.2.2 = S.2.2.2 from by rw [eS28]; rfl)
  obtain ⟨i30, ei30, h⟩ := lt_some h
  obtain ⟨g31, h⟩ := gd_some h
  obtain ⟨g32, h⟩ := gd_some h
  obtain ⟨g33, h⟩ := gd_some h
  obtain ⟨S34, eS34, h⟩ := lt_some h
  have hm := hm.tr (MN.nw eS34)
  exact hm.tr (m_M_init_39 h)
set_option maxHeartbeats 4000000 in
set_option maxRecDepth 100000 in
theorem m_M_init_23 {S' : HS} {x0 : Nat} {y0 : Nat} {y1 : Nat} {S : HS} (h : f_M_init_b23 x0 y0 y1 S = some S') : MN S S' := by
  unfold f_M_init_b23 at h
  have hm : MN S S := MN.rf
  obtain ⟨g18, h⟩ := gd_some h
  obtain ⟨g20, h⟩ := gd_some h
  obtain ⟨S19, eS19, h⟩ := lt_some h
  have hm := hm.kR (show S19.2.2.2 = S.2.2.2 from by rw [eS19]; rfl)
  obtain ⟨i21, ei21, h⟩ := lt_some h
  obtain ⟨g22, h⟩ := gd_some h
  obtain ⟨g23, h⟩ := gd_some h
  obtain ⟨g24, h⟩ := gd_some h
  obtain ⟨S25, eS25, h⟩ := lt_some h
  have hm := hm.tr (MN.nw eS25)
  exact hm.tr (m_M_init_31 h)
set_option maxHeartbeats 4000000 in
set_option maxRecDepth 100000 in
theorem m_M_init_10 {S' : HS} {x0 : Nat} {y0 : Nat} {y1 : Nat} {S : HS} (h : f_M_init_b10 x0 y0 y1 S = some S') : MN S S' := by
  unfold f_M_init_b10 at h
  have hm : MN S S := MN.rf
  obtain ⟨g7, h⟩ := gd_some h
  obtain ⟨g9, h⟩ := gd_some h
  obtain ⟨S8, eS8, h⟩ := lt_some h
  have hm := hm.kR (show S8.2.2.2 = S.2.2.2 from by rw [eS8]; rfl)
  obtain ⟨g10, h⟩ := gd_some h
  obtain ⟨S11, eS11, h⟩ := lt_some h
  have hm := hm.kR (show S11.2.2.2 = S8.2.2.2 from by rw [eS11]; rfl)
  obtain ⟨i12, ei12, h⟩ := lt_some h
  obtain ⟨g13, h⟩ := gd_some h
  obtain ⟨g14, h⟩ := gd_some h
  obtain ⟨g15, h⟩ := gd_some h
  obtain ⟨S16, eS16, h⟩ := lt_some h
  have hm := hm.tr (MN.nw eS16)
  exact hm.tr (m_M_init_23 h)
set_option maxHeartbeats 4000000 in
set_option maxRecDepth 100000 in
theorem m_M_init {x0 : Nat} {S : HS} {S' : HS} (h : f_M_init x0 S = some S') : MN S S' := by
  unfold f_M_init at h
  have hm : MN S S := MN.rf
  obtain ⟨i1, ei1, h⟩ := lt_some h
  obtain ⟨g2, h⟩ := gd_some h
  obtain ⟨g3, h⟩ := gd_some h
  obtain ⟨g4, h⟩ := gd_some h
  obtain ⟨S5, eS5, h⟩ := lt_some h
  have hm := hm.tr (MN.nw eS5)
  exact hm.tr (m_M_init_10 h)
section WA
variable {p : Program} {l : Launch} {e : Env} {s : State} {m : MethodId} {args : Array Value} {below : List Frame} {meth : Method} {c : Code} {D : va_G} {cA : Nat → ClassId} {z : Nat} {ac : Nat → Nat}
set_option maxHeartbeats 4000000 in
set_option maxRecDepth 100000 in
theorem w_M_init_178 {ad0 ad : Nat → Nat} {S0 : HS} (C : CB p s m args c meth b_M_init "TwoLevelParserModel" 1 none D cA z ac) (hnm : meth.name = "<init>") {S' : HS} (y0 : Nat) (y1 : Nat) {S : HS} {H : Heap} {locs : List Loc} {ls : Array Slot} (h : f_M_init_b178 y0 y1 S = some S') (hT : AC S0 ad0 S ad) (hW : HW D cA z ac E0 ad S H) (hS : va_S (zA z) s.heap H locs) (hl : lv_has ls 1 []) : GA p l e 1 s m args below meth c D cA z ac E0 ad0 S0 (fun _ => none) S' S H locs (F0 m 178 ls [.ref (ad y0), .ref (ad y1)]) := by
  obtain ⟨⟨hx, hb, hml, hown, hts⟩, hK, hr, hlo⟩ := id C
  have hF : MN S S' := m_M_init_178 h
  unfold f_M_init_b178 at h
  obtain ⟨g180, h⟩ := gd_some h
  obtain ⟨g182, h⟩ := gd_some h
  obtain ⟨S181, eS181, h⟩ := lt_some h
  refine hp_fin (j := y0) C hnm hW hS y1 30 g180.2 g180.1 q_M (by decide) rfl rfl kf_M_74 rfl rfl rfl rfl (Or.inl g182) rfl eS181 d_M_init_178 (fun H locs hW hS => ?_)
  have hkS181 : S181.2.2.2 = S.2.2.2 := by rw [eS181]; rfl
  refine ac_w hkS181 ?_
  have hT := hT.k hkS181
  have hF := hF.kL hkS181
  have h := Option.some.inj h
  subst h
  exact ea_v C hT hW hS d_M_init_181
set_option maxHeartbeats 4000000 in
set_option maxRecDepth 100000 in
theorem w_M_init_170 {ad0 ad : Nat → Nat} {S0 : HS} (C : CB p s m args c meth b_M_init "TwoLevelParserModel" 1 none D cA z ac) (hnm : meth.name = "<init>") {S' : HS} (x0 : Nat) (y0 : Nat) (y1 : Nat) {S : HS} {H : Heap} {locs : List Loc} {ls : Array Slot} (h : f_M_init_b170 x0 y0 y1 S = some S') (hT : AC S0 ad0 S ad) (hW : HW D cA z ac E0 ad S H) (hS : va_S (zA z) s.heap H locs) (hl : lv_has ls 1 [(0, .ref (ad x0))]) : GA p l e 1 s m args below meth c D cA z ac E0 ad0 S0 (fun _ => none) S' S H locs (F0 m 170 ls [.ref (ad y0), .ref (ad y1)]) := by
  obtain ⟨⟨hx, hb, hml, hown, hts⟩, hK, hr, hlo⟩ := id C
  have hF : MN S S' := m_M_init_170 h
  unfold f_M_init_b170 at h
  obtain ⟨g171, h⟩ := gd_some h
  obtain ⟨g173, h⟩ := gd_some h
  obtain ⟨S172, eS172, h⟩ := lt_some h
  refine hp_fin (j := y0) C hnm hW hS y1 29 g171.2 g171.1 q_M (by decide) rfl rfl kf_M_71 rfl rfl rfl rfl (Or.inl g173) rfl eS172 d_M_init_170 (fun H locs hW hS => ?_)
  have hkS172 : S172.2.2.2 = S.2.2.2 := by rw [eS172]; rfl
  refine ac_w hkS172 ?_
  have hT := hT.k hkS172
  have hF := hF.kL hkS172
  refine lv_aload_n hx hb d_M_init_173 rfl (lv_at hl 0 rfl) ?_
  refine lv_ldc hx hb hown (hts _ ki_M_70) d_M_init_174 ?_
  obtain ⟨i174, ei174, h⟩ := lt_some h
  obtain ⟨g175, h⟩ := gd_some h
  obtain ⟨g176, h⟩ := gd_some h
  obtain ⟨g177, h⟩ := gd_some h
  obtain ⟨S178, eS178, h⟩ := lt_some h
  have hX := hW
  refine hn_a (atype := .int) (ty := .int) (i := i174) (t := 1) (n := 33000) C hW hS hT (hW.zl g176) g177.1 (by decide) g177.2.1 g177.2.2.1 g177.2.2.2 (fun _ => rfl) eS178 rfl rfl (fun _ => rfl) ⟨by decide, by decide⟩ (fun _ h => by cases h) ka_int (by decide) rfl (by decide) (MN.le (m_M_init_178 h) _) d_M_init_176 (fun ad179 H hA hT hW hS => ?_)
  have hl : lv_has ls 1 [] := by exact lv_sub hl [] rfl
  rw [← hA x0 g175]
  exact w_M_init_178 C hnm i174 x0 h hT hW hS (lv_sub hl [] rfl)
set_option maxHeartbeats 4000000 in
set_option maxRecDepth 100000 in
theorem w_M_init_162 {ad0 ad : Nat → Nat} {S0 : HS} (C : CB p s m args c meth b_M_init "TwoLevelParserModel" 1 none D cA z ac) (hnm : meth.name = "<init>") {S' : HS} (x0 : Nat) (y0 : Nat) (y1 : Nat) {S : HS} {H : Heap} {locs : List Loc} {ls : Array Slot} (h : f_M_init_b162 x0 y0 y1 S = some S') (hT : AC S0 ad0 S ad) (hW : HW D cA z ac E0 ad S H) (hS : va_S (zA z) s.heap H locs) (hl : lv_has ls 1 [(0, .ref (ad x0))]) : GA p l e 1 s m args below meth c D cA z ac E0 ad0 S0 (fun _ => none) S' S H locs (F0 m 162 ls [.ref (ad y0), .ref (ad y1)]) := by
  obtain ⟨⟨hx, hb, hml, hown, hts⟩, hK, hr, hlo⟩ := id C
  have hF : MN S S' := m_M_init_162 h
  unfold f_M_init_b162 at h
  obtain ⟨g162, h⟩ := gd_some h
  obtain ⟨g164, h⟩ := gd_some h
  obtain ⟨S163, eS163, h⟩ := lt_some h
  refine hp_fin (j := y0) C hnm hW hS y1 28 g162.2 g162.1 q_M (by decide) rfl rfl kf_M_67 rfl rfl rfl rfl (Or.inl g164) rfl eS163 d_M_init_162 (fun H locs hW hS => ?_)
  have hkS163 : S163.2.2.2 = S.2.2.2 := by rw [eS163]; rfl
  refine ac_w hkS163 ?_
  have hT := hT.k hkS163
  have hF := hF.kL hkS163
  refine lv_aload_n hx hb d_M_init_165 rfl (lv_at hl 0 rfl) ?_
  refine lv_ldc hx hb hown (hts _ ki_M_70) d_M_init_166 ?_
  obtain ⟨i165, ei165, h⟩ := lt_some h
  obtain ⟨g166, h⟩ := gd_some h
  obtain ⟨g167, h⟩ := gd_some h
  obtain ⟨g168, h⟩ := gd_some h
  obtain ⟨S169, eS169, h⟩ := lt_some h
  have hX := hW
  refine hn_a (atype := .byte) (ty := .byte) (i := i165) (t := 0) (n := 33000) C hW hS hT (hW.zl g167) g168.1 (by decide) g168.2.1 g168.2.2.1 g168.2.2.2 (fun _ => rfl) eS169 rfl rfl (fun _ => rfl) ⟨by decide, by decide⟩ (fun _ h => by cases h) ka_byte (by decide) rfl (by decide) (MN.le (m_M_init_170 h) _) d_M_init_168 (fun ad170 H hA hT hW hS => ?_)
  have hl : lv_has ls 1 [(0, .ref (ad170 x0))] := by rw [hA x0 g166]; exact lv_sub hl [0] rfl
  rw [← hA x0 g166]
  exact w_M_init_170 C hnm x0 i165 x0 h hT hW hS (lv_sub hl [0] rfl)
set_option maxHeartbeats 4000000 in
set_option maxRecDepth 100000 in
theorem w_M_init_153 {ad0 ad : Nat → Nat} {S0 : HS} (C : CB p s m args c meth b_M_init "TwoLevelParserModel" 1 none D cA z ac) (hnm : meth.name = "<init>") {S' : HS} (x0 : Nat) (y0 : Nat) (y1 : Nat) {S : HS} {H : Heap} {locs : List Loc} {ls : Array Slot} (h : f_M_init_b153 x0 y0 y1 S = some S') (hT : AC S0 ad0 S ad) (hW : HW D cA z ac E0 ad S H) (hS : va_S (zA z) s.heap H locs) (hl : lv_has ls 1 [(0, .ref (ad x0))]) : GA p l e 1 s m args below meth c D cA z ac E0 ad0 S0 (fun _ => none) S' S H locs (F0 m 153 ls [.ref (ad y0), .ref (ad y1)]) := by
  obtain ⟨⟨hx, hb, hml, hown, hts⟩, hK, hr, hlo⟩ := id C
  have hF : MN S S' := m_M_init_153 h
  unfold f_M_init_b153 at h
  obtain ⟨g153, h⟩ := gd_some h
  obtain ⟨g155, h⟩ := gd_some h
  obtain ⟨S154, eS154, h⟩ := lt_some h
  refine hp_fin (j := y0) C hnm hW hS y1 27 g153.2 g153.1 q_M (by decide) rfl rfl kf_M_64 rfl rfl rfl rfl (Or.inl g155) rfl eS154 d_M_init_153 (fun H locs hW hS => ?_)
  have hkS154 : S154.2.2.2 = S.2.2.2 := by rw [eS154]; rfl
  refine ac_w hkS154 ?_
  have hT := hT.k hkS154
  have hF := hF.kL hkS154
  refine lv_aload_n hx hb d_M_init_156 rfl (lv_at hl 0 rfl) ?_
  refine lv_sipush (v := 8192) hx hb d_M_init_157 (by decide) ?_
  obtain ⟨i156, ei156, h⟩ := lt_some h
  obtain ⟨g157, h⟩ := gd_some h
  obtain ⟨g158, h⟩ := gd_some h
  obtain ⟨g159, h⟩ := gd_some h
  obtain ⟨S160, eS160, h⟩ := lt_some h
  have hX := hW
  refine hn_a (atype := .long) (ty := .long) (i := i156) (t := 2) (n := 8192) C hW hS hT (hW.zl g158) g159.1 (by decide) g159.2.1 g159.2.2.1 g159.2.2.2 (fun _ => rfl) eS160 rfl rfl (fun _ => rfl) ⟨by decide, by decide⟩ (fun _ h => by cases h) ka_long (by decide) rfl (by decide) (MN.le (m_M_init_162 h) _) d_M_init_160 (fun ad161 H hA hT hW hS => ?_)
  have hl : lv_has ls 1 [(0, .ref (ad161 x0))] := by rw [hA x0 g157]; exact lv_sub hl [0] rfl
  rw [← hA x0 g157]
  exact w_M_init_162 C hnm x0 i156 x0 h hT hW hS (lv_sub hl [0] rfl)
set_option maxHeartbeats 4000000 in
set_option maxRecDepth 100000 in
theorem w_M_init_144 {ad0 ad : Nat → Nat} {S0 : HS} (C : CB p s m args c meth b_M_init "TwoLevelParserModel" 1 none D cA z ac) (hnm : meth.name = "<init>") {S' : HS} (x0 : Nat) (y0 : Nat) (y1 : Nat) {S : HS} {H : Heap} {locs : List Loc} {ls : Array Slot} (h : f_M_init_b144 x0 y0 y1 S = some S') (hT : AC S0 ad0 S ad) (hW : HW D cA z ac E0 ad S H) (hS : va_S (zA z) s.heap H locs) (hl : lv_has ls 1 [(0, .ref (ad x0))]) : GA p l e 1 s m args below meth c D cA z ac E0 ad0 S0 (fun _ => none) S' S H locs (F0 m 144 ls [.ref (ad y0), .ref (ad y1)]) := by
  obtain ⟨⟨hx, hb, hml, hown, hts⟩, hK, hr, hlo⟩ := id C
  have hF : MN S S' := m_M_init_144 h
  unfold f_M_init_b144 at h
  obtain ⟨g144, h⟩ := gd_some h
  obtain ⟨g146, h⟩ := gd_some h
  obtain ⟨S145, eS145, h⟩ := lt_some h
  refine hp_fin (j := y0) C hnm hW hS y1 26 g144.2 g144.1 q_M (by decide) rfl rfl kf_M_61 rfl rfl rfl rfl (Or.inl g146) rfl eS145 d_M_init_144 (fun H locs hW hS => ?_)
  have hkS145 : S145.2.2.2 = S.2.2.2 := by rw [eS145]; rfl
  refine ac_w hkS145 ?_
  have hT := hT.k hkS145
  have hF := hF.kL hkS145
  refine lv_aload_n hx hb d_M_init_147 rfl (lv_at hl 0 rfl) ?_
  refine lv_sipush (v := 8192) hx hb d_M_init_148 (by decide) ?_
  obtain ⟨i147, ei147, h⟩ := lt_some h
  obtain ⟨g148, h⟩ := gd_some h
  obtain ⟨g149, h⟩ := gd_some h
  obtain ⟨g150, h⟩ := gd_some h
  obtain ⟨S151, eS151, h⟩ := lt_some h
  have hX := hW
  refine hn_a (atype := .long) (ty := .long) (i := i147) (t := 2) (n := 8192) C hW hS hT (hW.zl g149) g150.1 (by decide) g150.2.1 g150.2.2.1 g150.2.2.2 (fun _ => rfl) eS151 rfl rfl (fun _ => rfl) ⟨by decide, by decide⟩ (fun _ h => by cases h) ka_long (by decide) rfl (by decide) (MN.le (m_M_init_153 h) _) d_M_init_151 (fun ad152 H hA hT hW hS => ?_)
  have hl : lv_has ls 1 [(0, .ref (ad152 x0))] := by rw [hA x0 g148]; exact lv_sub hl [0] rfl
  rw [← hA x0 g148]
  exact w_M_init_153 C hnm x0 i147 x0 h hT hW hS (lv_sub hl [0] rfl)
set_option maxHeartbeats 4000000 in
set_option maxRecDepth 100000 in
theorem w_M_init_135 {ad0 ad : Nat → Nat} {S0 : HS} (C : CB p s m args c meth b_M_init "TwoLevelParserModel" 1 none D cA z ac) (hnm : meth.name = "<init>") {S' : HS} (x0 : Nat) (y0 : Nat) (y1 : Nat) {S : HS} {H : Heap} {locs : List Loc} {ls : Array Slot} (h : f_M_init_b135 x0 y0 y1 S = some S') (hT : AC S0 ad0 S ad) (hW : HW D cA z ac E0 ad S H) (hS : va_S (zA z) s.heap H locs) (hl : lv_has ls 1 [(0, .ref (ad x0))]) : GA p l e 1 s m args below meth c D cA z ac E0 ad0 S0 (fun _ => none) S' S H locs (F0 m 135 ls [.ref (ad y0), .ref (ad y1)]) := by
  obtain ⟨⟨hx, hb, hml, hown, hts⟩, hK, hr, hlo⟩ := id C
  have hF : MN S S' := m_M_init_135 h
  unfold f_M_init_b135 at h
  obtain ⟨g135, h⟩ := gd_some h
  obtain ⟨g137, h⟩ := gd_some h
  obtain ⟨S136, eS136, h⟩ := lt_some h
  refine hp_fin (j := y0) C hnm hW hS y1 25 g135.2 g135.1 q_M (by decide) rfl rfl kf_M_58 rfl rfl rfl rfl (Or.inl g137) rfl eS136 d_M_init_135 (fun H locs hW hS => ?_)
  have hkS136 : S136.2.2.2 = S.2.2.2 := by rw [eS136]; rfl
  refine ac_w hkS136 ?_
  have hT := hT.k hkS136
  have hF := hF.kL hkS136
  refine lv_aload_n hx hb d_M_init_138 rfl (lv_at hl 0 rfl) ?_
  refine lv_sipush (v := 8192) hx hb d_M_init_139 (by decide) ?_
  obtain ⟨i138, ei138, h⟩ := lt_some h
  obtain ⟨g139, h⟩ := gd_some h
  obtain ⟨g140, h⟩ := gd_some h
  obtain ⟨g141, h⟩ := gd_some h
  obtain ⟨S142, eS142, h⟩ := lt_some h
  have hX := hW
  refine hn_a (atype := .int) (ty := .int) (i := i138) (t := 1) (n := 8192) C hW hS hT (hW.zl g140) g141.1 (by decide) g141.2.1 g141.2.2.1 g141.2.2.2 (fun _ => rfl) eS142 rfl rfl (fun _ => rfl) ⟨by decide, by decide⟩ (fun _ h => by cases h) ka_int (by decide) rfl (by decide) (MN.le (m_M_init_144 h) _) d_M_init_142 (fun ad143 H hA hT hW hS => ?_)
  have hl : lv_has ls 1 [(0, .ref (ad143 x0))] := by rw [hA x0 g139]; exact lv_sub hl [0] rfl
  rw [← hA x0 g139]
  exact w_M_init_144 C hnm x0 i138 x0 h hT hW hS (lv_sub hl [0] rfl)
set_option maxHeartbeats 4000000 in
set_option maxRecDepth 100000 in
theorem w_M_init_126 {ad0 ad : Nat → Nat} {S0 : HS} (C : CB p s m args c meth b_M_init "TwoLevelParserModel" 1 none D cA z ac) (hnm : meth.name = "<init>") {S' : HS} (x0 : Nat) (y0 : Nat) (y1 : Nat) {S : HS} {H : Heap} {locs : List Loc} {ls : Array Slot} (h : f_M_init_b126 x0 y0 y1 S = some S') (hT : AC S0 ad0 S ad) (hW : HW D cA z ac E0 ad S H) (hS : va_S (zA z) s.heap H locs) (hl : lv_has ls 1 [(0, .ref (ad x0))]) : GA p l e 1 s m args below meth c D cA z ac E0 ad0 S0 (fun _ => none) S' S H locs (F0 m 126 ls [.ref (ad y0), .ref (ad y1)]) := by
  obtain ⟨⟨hx, hb, hml, hown, hts⟩, hK, hr, hlo⟩ := id C
  have hF : MN S S' := m_M_init_126 h
  unfold f_M_init_b126 at h
  obtain ⟨g126, h⟩ := gd_some h
  obtain ⟨g128, h⟩ := gd_some h
  obtain ⟨S127, eS127, h⟩ := lt_some h
  refine hp_fin (j := y0) C hnm hW hS y1 24 g126.2 g126.1 q_M (by decide) rfl rfl kf_M_55 rfl rfl rfl rfl (Or.inl g128) rfl eS127 d_M_init_126 (fun H locs hW hS => ?_)
  have hkS127 : S127.2.2.2 = S.2.2.2 := by rw [eS127]; rfl
  refine ac_w hkS127 ?_
  have hT := hT.k hkS127
  have hF := hF.kL hkS127
  refine lv_aload_n hx hb d_M_init_129 rfl (lv_at hl 0 rfl) ?_
  refine lv_sipush (v := 8192) hx hb d_M_init_130 (by decide) ?_
  obtain ⟨i129, ei129, h⟩ := lt_some h
  obtain ⟨g130, h⟩ := gd_some h
  obtain ⟨g131, h⟩ := gd_some h
  obtain ⟨g132, h⟩ := gd_some h
  obtain ⟨S133, eS133, h⟩ := lt_some h
  have hX := hW
  refine hn_a (atype := .int) (ty := .int) (i := i129) (t := 1) (n := 8192) C hW hS hT (hW.zl g131) g132.1 (by decide) g132.2.1 g132.2.2.1 g132.2.2.2 (fun _ => rfl) eS133 rfl rfl (fun _ => rfl) ⟨by decide, by decide⟩ (fun _ h => by cases h) ka_int (by decide) rfl (by decide) (MN.le (m_M_init_135 h) _) d_M_init_133 (fun ad134 H hA hT hW hS => ?_)
  have hl : lv_has ls 1 [(0, .ref (ad134 x0))] := by rw [hA x0 g130]; exact lv_sub hl [0] rfl
  rw [← hA x0 g130]
  exact w_M_init_135 C hnm x0 i129 x0 h hT hW hS (lv_sub hl [0] rfl)
set_option maxHeartbeats 4000000 in
set_option maxRecDepth 100000 in
theorem w_M_init_117 {ad0 ad : Nat → Nat} {S0 : HS} (C : CB p s m args c meth b_M_init "TwoLevelParserModel" 1 none D cA z ac) (hnm : meth.name = "<init>") {S' : HS} (x0 : Nat) (y0 : Nat) (y1 : Nat) {S : HS} {H : Heap} {locs : List Loc} {ls : Array Slot} (h : f_M_init_b117 x0 y0 y1 S = some S') (hT : AC S0 ad0 S ad) (hW : HW D cA z ac E0 ad S H) (hS : va_S (zA z) s.heap H locs) (hl : lv_has ls 1 [(0, .ref (ad x0))]) : GA p l e 1 s m args below meth c D cA z ac E0 ad0 S0 (fun _ => none) S' S H locs (F0 m 117 ls [.ref (ad y0), .ref (ad y1)]) := by
  obtain ⟨⟨hx, hb, hml, hown, hts⟩, hK, hr, hlo⟩ := id C
  have hF : MN S S' := m_M_init_117 h
  unfold f_M_init_b117 at h
  obtain ⟨g117, h⟩ := gd_some h
  obtain ⟨g119, h⟩ := gd_some h
  obtain ⟨S118, eS118, h⟩ := lt_some h
  refine hp_fin (j := y0) C hnm hW hS y1 23 g117.2 g117.1 q_M (by decide) rfl rfl kf_M_52 rfl rfl rfl rfl (Or.inl g119) rfl eS118 d_M_init_117 (fun H locs hW hS => ?_)
  have hkS118 : S118.2.2.2 = S.2.2.2 := by rw [eS118]; rfl
  refine ac_w hkS118 ?_
  have hT := hT.k hkS118
  have hF := hF.kL hkS118
  refine lv_aload_n hx hb d_M_init_120 rfl (lv_at hl 0 rfl) ?_
  refine lv_sipush (v := 8192) hx hb d_M_init_121 (by decide) ?_
  obtain ⟨i120, ei120, h⟩ := lt_some h
  obtain ⟨g121, h⟩ := gd_some h
  obtain ⟨g122, h⟩ := gd_some h
  obtain ⟨g123, h⟩ := gd_some h
  obtain ⟨S124, eS124, h⟩ := lt_some h
  have hX := hW
  refine hn_a (atype := .int) (ty := .int) (i := i120) (t := 1) (n := 8192) C hW hS hT (hW.zl g122) g123.1 (by decide) g123.2.1 g123.2.2.1 g123.2.2.2 (fun _ => rfl) eS124 rfl rfl (fun _ => rfl) ⟨by decide, by decide⟩ (fun _ h => by cases h) ka_int (by decide) rfl (by decide) (MN.le (m_M_init_126 h) _) d_M_init_124 (fun ad125 H hA hT hW hS => ?_)
  have hl : lv_has ls 1 [(0, .ref (ad125 x0))] := by rw [hA x0 g121]; exact lv_sub hl [0] rfl
  rw [← hA x0 g121]
  exact w_M_init_126 C hnm x0 i120 x0 h hT hW hS (lv_sub hl [0] rfl)
set_option maxHeartbeats 4000000 in
set_option maxRecDepth 100000 in
theorem w_M_init_108 {ad0 ad : Nat → Nat} {S0 : HS} (C : CB p s m args c meth b_M_init "TwoLevelParserModel" 1 none D cA z ac) (hnm : meth.name = "<init>") {S' : HS} (x0 : Nat) (y0 : Nat) (y1 : Nat) {S : HS} {H : Heap} {locs : List Loc} {ls : Array Slot} (h : f_M_init_b108 x0 y0 y1 S = some S') (hT : AC S0 ad0 S ad) (hW : HW D cA z ac E0 ad S H) (hS : va_S (zA z) s.heap H locs) (hl : lv_has ls 1 [(0, .ref (ad x0))]) : GA p l e 1 s m args below meth c D cA z ac E0 ad0 S0 (fun _ => none) S' S H locs (F0 m 108 ls [.ref (ad y0), .ref (ad y1)]) := by
  obtain ⟨⟨hx, hb, hml, hown, hts⟩, hK, hr, hlo⟩ := id C
  have hF : MN S S' := m_M_init_108 h
  unfold f_M_init_b108 at h
  obtain ⟨g108, h⟩ := gd_some h
  obtain ⟨g110, h⟩ := gd_some h
  obtain ⟨S109, eS109, h⟩ := lt_some h
  refine hp_fin (j := y0) C hnm hW hS y1 22 g108.2 g108.1 q_M (by decide) rfl rfl kf_M_49 rfl rfl rfl rfl (Or.inl g110) rfl eS109 d_M_init_108 (fun H locs hW hS => ?_)
  have hkS109 : S109.2.2.2 = S.2.2.2 := by rw [eS109]; rfl
  refine ac_w hkS109 ?_
  have hT := hT.k hkS109
  have hF := hF.kL hkS109
  refine lv_aload_n hx hb d_M_init_111 rfl (lv_at hl 0 rfl) ?_
  refine lv_sipush (v := 8192) hx hb d_M_init_112 (by decide) ?_
  obtain ⟨i111, ei111, h⟩ := lt_some h
  obtain ⟨g112, h⟩ := gd_some h
  obtain ⟨g113, h⟩ := gd_some h
  obtain ⟨g114, h⟩ := gd_some h
  obtain ⟨S115, eS115, h⟩ := lt_some h
  have hX := hW
  refine hn_a (atype := .int) (ty := .int) (i := i111) (t := 1) (n := 8192) C hW hS hT (hW.zl g113) g114.1 (by decide) g114.2.1 g114.2.2.1 g114.2.2.2 (fun _ => rfl) eS115 rfl rfl (fun _ => rfl) ⟨by decide, by decide⟩ (fun _ h => by cases h) ka_int (by decide) rfl (by decide) (MN.le (m_M_init_117 h) _) d_M_init_115 (fun ad116 H hA hT hW hS => ?_)
  have hl : lv_has ls 1 [(0, .ref (ad116 x0))] := by rw [hA x0 g112]; exact lv_sub hl [0] rfl
  rw [← hA x0 g112]
  exact w_M_init_117 C hnm x0 i111 x0 h hT hW hS (lv_sub hl [0] rfl)
set_option maxHeartbeats 4000000 in
set_option maxRecDepth 100000 in
theorem w_M_init_99 {ad0 ad : Nat → Nat} {S0 : HS} (C : CB p s m args c meth b_M_init "TwoLevelParserModel" 1 none D cA z ac) (hnm : meth.name = "<init>") {S' : HS} (x0 : Nat) (y0 : Nat) (y1 : Nat) {S : HS} {H : Heap} {locs : List Loc} {ls : Array Slot} (h : f_M_init_b99 x0 y0 y1 S = some S') (hT : AC S0 ad0 S ad) (hW : HW D cA z ac E0 ad S H) (hS : va_S (zA z) s.heap H locs) (hl : lv_has ls 1 [(0, .ref (ad x0))]) : GA p l e 1 s m args below meth c D cA z ac E0 ad0 S0 (fun _ => none) S' S H locs (F0 m 99 ls [.ref (ad y0), .ref (ad y1)]) := by
  obtain ⟨⟨hx, hb, hml, hown, hts⟩, hK, hr, hlo⟩ := id C
  have hF : MN S S' := m_M_init_99 h
  unfold f_M_init_b99 at h
  obtain ⟨g99, h⟩ := gd_some h
  obtain ⟨g101, h⟩ := gd_some h
  obtain ⟨S100, eS100, h⟩ := lt_some h
  refine hp_fin (j := y0) C hnm hW hS y1 21 g99.2 g99.1 q_M (by decide) rfl rfl kf_M_46 rfl rfl rfl rfl (Or.inl g101) rfl eS100 d_M_init_99 (fun H locs hW hS => ?_)
  have hkS100 : S100.2.2.2 = S.2.2.2 := by rw [eS100]; rfl
  refine ac_w hkS100 ?_
  have hT := hT.k hkS100
  have hF := hF.kL hkS100
  refine lv_aload_n hx hb d_M_init_102 rfl (lv_at hl 0 rfl) ?_
  refine lv_sipush (v := 8192) hx hb d_M_init_103 (by decide) ?_
  obtain ⟨i102, ei102, h⟩ := lt_some h
  obtain ⟨g103, h⟩ := gd_some h
  obtain ⟨g104, h⟩ := gd_some h
  obtain ⟨g105, h⟩ := gd_some h
  obtain ⟨S106, eS106, h⟩ := lt_some h
  have hX := hW
  refine hn_a (atype := .int) (ty := .int) (i := i102) (t := 1) (n := 8192) C hW hS hT (hW.zl g104) g105.1 (by decide) g105.2.1 g105.2.2.1 g105.2.2.2 (fun _ => rfl) eS106 rfl rfl (fun _ => rfl) ⟨by decide, by decide⟩ (fun _ h => by cases h) ka_int (by decide) rfl (by decide) (MN.le (m_M_init_108 h) _) d_M_init_106 (fun ad107 H hA hT hW hS => ?_)
  have hl : lv_has ls 1 [(0, .ref (ad107 x0))] := by rw [hA x0 g103]; exact lv_sub hl [0] rfl
  rw [← hA x0 g103]
  exact w_M_init_108 C hnm x0 i102 x0 h hT hW hS (lv_sub hl [0] rfl)
set_option maxHeartbeats 4000000 in
set_option maxRecDepth 100000 in
theorem w_M_init_90 {ad0 ad : Nat → Nat} {S0 : HS} (C : CB p s m args c meth b_M_init "TwoLevelParserModel" 1 none D cA z ac) (hnm : meth.name = "<init>") {S' : HS} (x0 : Nat) (y0 : Nat) (y1 : Nat) {S : HS} {H : Heap} {locs : List Loc} {ls : Array Slot} (h : f_M_init_b90 x0 y0 y1 S = some S') (hT : AC S0 ad0 S ad) (hW : HW D cA z ac E0 ad S H) (hS : va_S (zA z) s.heap H locs) (hl : lv_has ls 1 [(0, .ref (ad x0))]) : GA p l e 1 s m args below meth c D cA z ac E0 ad0 S0 (fun _ => none) S' S H locs (F0 m 90 ls [.ref (ad y0), .ref (ad y1)]) := by
  obtain ⟨⟨hx, hb, hml, hown, hts⟩, hK, hr, hlo⟩ := id C
  have hF : MN S S' := m_M_init_90 h
  unfold f_M_init_b90 at h
  obtain ⟨g90, h⟩ := gd_some h
  obtain ⟨g92, h⟩ := gd_some h
  obtain ⟨S91, eS91, h⟩ := lt_some h
  refine hp_fin (j := y0) C hnm hW hS y1 20 g90.2 g90.1 q_M (by decide) rfl rfl kf_M_43 rfl rfl rfl rfl (Or.inl g92) rfl eS91 d_M_init_90 (fun H locs hW hS => ?_)
  have hkS91 : S91.2.2.2 = S.2.2.2 := by rw [eS91]; rfl
  refine ac_w hkS91 ?_
  have hT := hT.k hkS91
  have hF := hF.kL hkS91
  refine lv_aload_n hx hb d_M_init_93 rfl (lv_at hl 0 rfl) ?_
  refine lv_sipush (v := 8192) hx hb d_M_init_94 (by decide) ?_
  obtain ⟨i93, ei93, h⟩ := lt_some h
  obtain ⟨g94, h⟩ := gd_some h
  obtain ⟨g95, h⟩ := gd_some h
  obtain ⟨g96, h⟩ := gd_some h
  obtain ⟨S97, eS97, h⟩ := lt_some h
  have hX := hW
  refine hn_a (atype := .int) (ty := .int) (i := i93) (t := 1) (n := 8192) C hW hS hT (hW.zl g95) g96.1 (by decide) g96.2.1 g96.2.2.1 g96.2.2.2 (fun _ => rfl) eS97 rfl rfl (fun _ => rfl) ⟨by decide, by decide⟩ (fun _ h => by cases h) ka_int (by decide) rfl (by decide) (MN.le (m_M_init_99 h) _) d_M_init_97 (fun ad98 H hA hT hW hS => ?_)
  have hl : lv_has ls 1 [(0, .ref (ad98 x0))] := by rw [hA x0 g94]; exact lv_sub hl [0] rfl
  rw [← hA x0 g94]
  exact w_M_init_99 C hnm x0 i93 x0 h hT hW hS (lv_sub hl [0] rfl)
set_option maxHeartbeats 4000000 in
set_option maxRecDepth 100000 in
theorem w_M_init_81 {ad0 ad : Nat → Nat} {S0 : HS} (C : CB p s m args c meth b_M_init "TwoLevelParserModel" 1 none D cA z ac) (hnm : meth.name = "<init>") {S' : HS} (x0 : Nat) (y0 : Nat) (y1 : Nat) {S : HS} {H : Heap} {locs : List Loc} {ls : Array Slot} (h : f_M_init_b81 x0 y0 y1 S = some S') (hT : AC S0 ad0 S ad) (hW : HW D cA z ac E0 ad S H) (hS : va_S (zA z) s.heap H locs) (hl : lv_has ls 1 [(0, .ref (ad x0))]) : GA p l e 1 s m args below meth c D cA z ac E0 ad0 S0 (fun _ => none) S' S H locs (F0 m 81 ls [.ref (ad y0), .ref (ad y1)]) := by
  obtain ⟨⟨hx, hb, hml, hown, hts⟩, hK, hr, hlo⟩ := id C
  have hF : MN S S' := m_M_init_81 h
  unfold f_M_init_b81 at h
  obtain ⟨g81, h⟩ := gd_some h
  obtain ⟨g83, h⟩ := gd_some h
  obtain ⟨S82, eS82, h⟩ := lt_some h
  refine hp_fin (j := y0) C hnm hW hS y1 18 g81.2 g81.1 q_M (by decide) rfl rfl kf_M_40 rfl rfl rfl rfl (Or.inl g83) rfl eS82 d_M_init_81 (fun H locs hW hS => ?_)
  have hkS82 : S82.2.2.2 = S.2.2.2 := by rw [eS82]; rfl
  refine ac_w hkS82 ?_
  have hT := hT.k hkS82
  have hF := hF.kL hkS82
  refine lv_aload_n hx hb d_M_init_84 rfl (lv_at hl 0 rfl) ?_
  refine lv_sipush (v := 8192) hx hb d_M_init_85 (by decide) ?_
  obtain ⟨i84, ei84, h⟩ := lt_some h
  obtain ⟨g85, h⟩ := gd_some h
  obtain ⟨g86, h⟩ := gd_some h
  obtain ⟨g87, h⟩ := gd_some h
  obtain ⟨S88, eS88, h⟩ := lt_some h
  have hX := hW
  refine hn_a (atype := .int) (ty := .int) (i := i84) (t := 1) (n := 8192) C hW hS hT (hW.zl g86) g87.1 (by decide) g87.2.1 g87.2.2.1 g87.2.2.2 (fun _ => rfl) eS88 rfl rfl (fun _ => rfl) ⟨by decide, by decide⟩ (fun _ h => by cases h) ka_int (by decide) rfl (by decide) (MN.le (m_M_init_90 h) _) d_M_init_88 (fun ad89 H hA hT hW hS => ?_)
  have hl : lv_has ls 1 [(0, .ref (ad89 x0))] := by rw [hA x0 g85]; exact lv_sub hl [0] rfl
  rw [← hA x0 g85]
  exact w_M_init_90 C hnm x0 i84 x0 h hT hW hS (lv_sub hl [0] rfl)
set_option maxHeartbeats 4000000 in
set_option maxRecDepth 100000 in
theorem w_M_init_72 {ad0 ad : Nat → Nat} {S0 : HS} (C : CB p s m args c meth b_M_init "TwoLevelParserModel" 1 none D cA z ac) (hnm : meth.name = "<init>") {S' : HS} (x0 : Nat) (y0 : Nat) (y1 : Nat) {S : HS} {H : Heap} {locs : List Loc} {ls : Array Slot} (h : f_M_init_b72 x0 y0 y1 S = some S') (hT : AC S0 ad0 S ad) (hW : HW D cA z ac E0 ad S H) (hS : va_S (zA z) s.heap H locs) (hl : lv_has ls 1 [(0, .ref (ad x0))]) : GA p l e 1 s m args below meth c D cA z ac E0 ad0 S0 (fun _ => none) S' S H locs (F0 m 72 ls [.ref (ad y0), .ref (ad y1)]) := by
  obtain ⟨⟨hx, hb, hml, hown, hts⟩, hK, hr, hlo⟩ := id C
  have hF : MN S S' := m_M_init_72 h
  unfold f_M_init_b72 at h
  obtain ⟨g72, h⟩ := gd_some h
  obtain ⟨g74, h⟩ := gd_some h
  obtain ⟨S73, eS73, h⟩ := lt_some h
  refine hp_fin (j := y0) C hnm hW hS y1 17 g72.2 g72.1 q_M (by decide) rfl rfl kf_M_37 rfl rfl rfl rfl (Or.inl g74) rfl eS73 d_M_init_72 (fun H locs hW hS => ?_)
  have hkS73 : S73.2.2.2 = S.2.2.2 := by rw [eS73]; rfl
  refine ac_w hkS73 ?_
  have hT := hT.k hkS73
  have hF := hF.kL hkS73
  refine lv_aload_n hx hb d_M_init_75 rfl (lv_at hl 0 rfl) ?_
  refine lv_sipush (v := 512) hx hb d_M_init_76 (by decide) ?_
  obtain ⟨i75, ei75, h⟩ := lt_some h
  obtain ⟨g76, h⟩ := gd_some h
  obtain ⟨g77, h⟩ := gd_some h
  obtain ⟨g78, h⟩ := gd_some h
  obtain ⟨S79, eS79, h⟩ := lt_some h
  have hX := hW
  refine hn_a (atype := .int) (ty := .int) (i := i75) (t := 1) (n := 512) C hW hS hT (hW.zl g77) g78.1 (by decide) g78.2.1 g78.2.2.1 g78.2.2.2 (fun _ => rfl) eS79 rfl rfl (fun _ => rfl) ⟨by decide, by decide⟩ (fun _ h => by cases h) ka_int (by decide) rfl (by decide) (MN.le (m_M_init_81 h) _) d_M_init_79 (fun ad80 H hA hT hW hS => ?_)
  have hl : lv_has ls 1 [(0, .ref (ad80 x0))] := by rw [hA x0 g76]; exact lv_sub hl [0] rfl
  rw [← hA x0 g76]
  exact w_M_init_81 C hnm x0 i75 x0 h hT hW hS (lv_sub hl [0] rfl)
set_option maxHeartbeats 4000000 in
set_option maxRecDepth 100000 in
theorem w_M_init_63 {ad0 ad : Nat → Nat} {S0 : HS} (C : CB p s m args c meth b_M_init "TwoLevelParserModel" 1 none D cA z ac) (hnm : meth.name = "<init>") {S' : HS} (x0 : Nat) (y0 : Nat) (y1 : Nat) {S : HS} {H : Heap} {locs : List Loc} {ls : Array Slot} (h : f_M_init_b63 x0 y0 y1 S = some S') (hT : AC S0 ad0 S ad) (hW : HW D cA z ac E0 ad S H) (hS : va_S (zA z) s.heap H locs) (hl : lv_has ls 1 [(0, .ref (ad x0))]) : GA p l e 1 s m args below meth c D cA z ac E0 ad0 S0 (fun _ => none) S' S H locs (F0 m 63 ls [.ref (ad y0), .ref (ad y1)]) := by
  obtain ⟨⟨hx, hb, hml, hown, hts⟩, hK, hr, hlo⟩ := id C
  have hF : MN S S' := m_M_init_63 h
  unfold f_M_init_b63 at h
  obtain ⟨g63, h⟩ := gd_some h
  obtain ⟨g65, h⟩ := gd_some h
  obtain ⟨S64, eS64, h⟩ := lt_some h
  refine hp_fin (j := y0) C hnm hW hS y1 16 g63.2 g63.1 q_M (by decide) rfl rfl kf_M_33 rfl rfl rfl rfl (Or.inl g65) rfl eS64 d_M_init_63 (fun H locs hW hS => ?_)
  have hkS64 : S64.2.2.2 = S.2.2.2 := by rw [eS64]; rfl
  refine ac_w hkS64 ?_
  have hT := hT.k hkS64
  have hF := hF.kL hkS64
  refine lv_aload_n hx hb d_M_init_66 rfl (lv_at hl 0 rfl) ?_
  refine lv_sipush (v := 512) hx hb d_M_init_67 (by decide) ?_
  obtain ⟨i66, ei66, h⟩ := lt_some h
  obtain ⟨g67, h⟩ := gd_some h
  obtain ⟨g68, h⟩ := gd_some h
  obtain ⟨g69, h⟩ := gd_some h
  obtain ⟨S70, eS70, h⟩ := lt_some h
  have hX := hW
  refine hn_a (atype := .long) (ty := .long) (i := i66) (t := 2) (n := 512) C hW hS hT (hW.zl g68) g69.1 (by decide) g69.2.1 g69.2.2.1 g69.2.2.2 (fun _ => rfl) eS70 rfl rfl (fun _ => rfl) ⟨by decide, by decide⟩ (fun _ h => by cases h) ka_long (by decide) rfl (by decide) (MN.le (m_M_init_72 h) _) d_M_init_70 (fun ad71 H hA hT hW hS => ?_)
  have hl : lv_has ls 1 [(0, .ref (ad71 x0))] := by rw [hA x0 g67]; exact lv_sub hl [0] rfl
  rw [← hA x0 g67]
  exact w_M_init_72 C hnm x0 i66 x0 h hT hW hS (lv_sub hl [0] rfl)
set_option maxHeartbeats 4000000 in
set_option maxRecDepth 100000 in
theorem w_M_init_55 {ad0 ad : Nat → Nat} {S0 : HS} (C : CB p s m args c meth b_M_init "TwoLevelParserModel" 1 none D cA z ac) (hnm : meth.name = "<init>") {S' : HS} (x0 : Nat) (y0 : Nat) (y1 : Nat) {S : HS} {H : Heap} {locs : List Loc} {ls : Array Slot} (h : f_M_init_b55 x0 y0 y1 S = some S') (hT : AC S0 ad0 S ad) (hW : HW D cA z ac E0 ad S H) (hS : va_S (zA z) s.heap H locs) (hl : lv_has ls 1 [(0, .ref (ad x0))]) : GA p l e 1 s m args below meth c D cA z ac E0 ad0 S0 (fun _ => none) S' S H locs (F0 m 55 ls [.ref (ad y0), .ref (ad y1)]) := by
  obtain ⟨⟨hx, hb, hml, hown, hts⟩, hK, hr, hlo⟩ := id C
  have hF : MN S S' := m_M_init_55 h
  unfold f_M_init_b55 at h
  obtain ⟨g54, h⟩ := gd_some h
  obtain ⟨g56, h⟩ := gd_some h
  obtain ⟨S55, eS55, h⟩ := lt_some h
  refine hp_fin (j := y0) C hnm hW hS y1 15 g54.2 g54.1 q_M (by decide) rfl rfl kf_M_30 rfl rfl rfl rfl (Or.inl g56) rfl eS55 d_M_init_55 (fun H locs hW hS => ?_)
  have hkS55 : S55.2.2.2 = S.2.2.2 := by rw [eS55]; rfl
  refine ac_w hkS55 ?_
  have hT := hT.k hkS55
  have hF := hF.kL hkS55
  refine lv_aload_n hx hb d_M_init_58 rfl (lv_at hl 0 rfl) ?_
  refine lv_bipush (v := 64) hx hb d_M_init_59 (by decide) ?_
  obtain ⟨i57, ei57, h⟩ := lt_some h
  obtain ⟨g58, h⟩ := gd_some h
  obtain ⟨g59, h⟩ := gd_some h
  obtain ⟨g60, h⟩ := gd_some h
  obtain ⟨S61, eS61, h⟩ := lt_some h
  have hX := hW
  refine hn_a (atype := .long) (ty := .long) (i := i57) (t := 2) (n := 64) C hW hS hT (hW.zl g59) g60.1 (by decide) g60.2.1 g60.2.2.1 g60.2.2.2 (fun _ => rfl) eS61 rfl rfl (fun _ => rfl) ⟨by decide, by decide⟩ (fun _ h => by cases h) ka_long (by decide) rfl (by decide) (MN.le (m_M_init_63 h) _) d_M_init_61 (fun ad62 H hA hT hW hS => ?_)
  have hl : lv_has ls 1 [(0, .ref (ad62 x0))] := by rw [hA x0 g58]; exact lv_sub hl [0] rfl
  rw [← hA x0 g58]
  exact w_M_init_63 C hnm x0 i57 x0 h hT hW hS (lv_sub hl [0] rfl)
set_option maxHeartbeats 4000000 in
set_option maxRecDepth 100000 in
theorem w_M_init_47 {ad0 ad : Nat → Nat} {S0 : HS} (C : CB p s m args c meth b_M_init "TwoLevelParserModel" 1 none D cA z ac) (hnm : meth.name = "<init>") {S' : HS} (x0 : Nat) (y0 : Nat) (y1 : Nat) {S : HS} {H : Heap} {locs : List Loc} {ls : Array Slot} (h : f_M_init_b47 x0 y0 y1 S = some S') (hT : AC S0 ad0 S ad) (hW : HW D cA z ac E0 ad S H) (hS : va_S (zA z) s.heap H locs) (hl : lv_has ls 1 [(0, .ref (ad x0))]) : GA p l e 1 s m args below meth c D cA z ac E0 ad0 S0 (fun _ => none) S' S H locs (F0 m 47 ls [.ref (ad y0), .ref (ad y1)]) := by
  obtain ⟨⟨hx, hb, hml, hown, hts⟩, hK, hr, hlo⟩ := id C
  have hF : MN S S' := m_M_init_47 h
  unfold f_M_init_b47 at h
  obtain ⟨g45, h⟩ := gd_some h
  obtain ⟨g47, h⟩ := gd_some h
  obtain ⟨S46, eS46, h⟩ := lt_some h
  refine hp_fin (j := y0) C hnm hW hS y1 14 g45.2 g45.1 q_M (by decide) rfl rfl kf_M_27 rfl rfl rfl rfl (Or.inl g47) rfl eS46 d_M_init_47 (fun H locs hW hS => ?_)
  have hkS46 : S46.2.2.2 = S.2.2.2 := by rw [eS46]; rfl
  refine ac_w hkS46 ?_
  have hT := hT.k hkS46
  have hF := hF.kL hkS46
  refine lv_aload_n hx hb d_M_init_50 rfl (lv_at hl 0 rfl) ?_
  refine lv_bipush (v := 64) hx hb d_M_init_51 (by decide) ?_
  obtain ⟨i48, ei48, h⟩ := lt_some h
  obtain ⟨g49, h⟩ := gd_some h
  obtain ⟨g50, h⟩ := gd_some h
  obtain ⟨g51, h⟩ := gd_some h
  obtain ⟨S52, eS52, h⟩ := lt_some h
  have hX := hW
  refine hn_a (atype := .int) (ty := .int) (i := i48) (t := 1) (n := 64) C hW hS hT (hW.zl g50) g51.1 (by decide) g51.2.1 g51.2.2.1 g51.2.2.2 (fun _ => rfl) eS52 rfl rfl (fun _ => rfl) ⟨by decide, by decide⟩ (fun _ h => by cases h) ka_int (by decide) rfl (by decide) (MN.le (m_M_init_55 h) _) d_M_init_53 (fun ad53 H hA hT hW hS => ?_)
  have hl : lv_has ls 1 [(0, .ref (ad53 x0))] := by rw [hA x0 g49]; exact lv_sub hl [0] rfl
  rw [← hA x0 g49]
  exact w_M_init_55 C hnm x0 i48 x0 h hT hW hS (lv_sub hl [0] rfl)
set_option maxHeartbeats 4000000 in
set_option maxRecDepth 100000 in
theorem w_M_init_39 {ad0 ad : Nat → Nat} {S0 : HS} (C : CB p s m args c meth b_M_init "TwoLevelParserModel" 1 none D cA z ac) (hnm : meth.name = "<init>") {S' : HS} (x0 : Nat) (y0 : Nat) (y1 : Nat) {S : HS} {H : Heap} {locs : List Loc} {ls : Array Slot} (h : f_M_init_b39 x0 y0 y1 S = some S') (hT : AC S0 ad0 S ad) (hW : HW D cA z ac E0 ad S H) (hS : va_S (zA z) s.heap H locs) (hl : lv_has ls 1 [(0, .ref (ad x0))]) : GA p l e 1 s m args below meth c D cA z ac E0 ad0 S0 (fun _ => none) S' S H locs (F0 m 39 ls [.ref (ad y0), .ref (ad y1)]) := by
  obtain ⟨⟨hx, hb, hml, hown, hts⟩, hK, hr, hlo⟩ := id C
  have hF : MN S S' := m_M_init_39 h
  unfold f_M_init_b39 at h
  obtain ⟨g36, h⟩ := gd_some h
  obtain ⟨g38, h⟩ := gd_some h
  obtain ⟨S37, eS37, h⟩ := lt_some h
  refine hp_fin (j := y0) C hnm hW hS y1 13 g36.2 g36.1 q_M (by decide) rfl rfl kf_M_24 rfl rfl rfl rfl (Or.inl g38) rfl eS37 d_M_init_39 (fun H locs hW hS => ?_)
  have hkS37 : S37.2.2.2 = S.2.2.2 := by rw [eS37]; rfl
  refine ac_w hkS37 ?_
  have hT := hT.k hkS37
  have hF := hF.kL hkS37
  refine lv_aload_n hx hb d_M_init_42 rfl (lv_at hl 0 rfl) ?_
  refine lv_bipush (v := 64) hx hb d_M_init_43 (by decide) ?_
  obtain ⟨i39, ei39, h⟩ := lt_some h
  obtain ⟨g40, h⟩ := gd_some h
  obtain ⟨g41, h⟩ := gd_some h
  obtain ⟨g42, h⟩ := gd_some h
  obtain ⟨S43, eS43, h⟩ := lt_some h
  have hX := hW
  refine hn_a (atype := .int) (ty := .int) (i := i39) (t := 1) (n := 64) C hW hS hT (hW.zl g41) g42.1 (by decide) g42.2.1 g42.2.2.1 g42.2.2.2 (fun _ => rfl) eS43 rfl rfl (fun _ => rfl) ⟨by decide, by decide⟩ (fun _ h => by cases h) ka_int (by decide) rfl (by decide) (MN.le (m_M_init_47 h) _) d_M_init_45 (fun ad44 H hA hT hW hS => ?_)
  have hl : lv_has ls 1 [(0, .ref (ad44 x0))] := by rw [hA x0 g40]; exact lv_sub hl [0] rfl
  rw [← hA x0 g40]
  exact w_M_init_47 C hnm x0 i39 x0 h hT hW hS (lv_sub hl [0] rfl)
set_option maxHeartbeats 4000000 in
set_option maxRecDepth 100000 in
theorem w_M_init_31 {ad0 ad : Nat → Nat} {S0 : HS} (C : CB p s m args c meth b_M_init "TwoLevelParserModel" 1 none D cA z ac) (hnm : meth.name = "<init>") {S' : HS} (x0 : Nat) (y0 : Nat) (y1 : Nat) {S : HS} {H : Heap} {locs : List Loc} {ls : Array Slot} (h : f_M_init_b31 x0 y0 y1 S = some S') (hT : AC S0 ad0 S ad) (hW : HW D cA z ac E0 ad S H) (hS : va_S (zA z) s.heap H locs) (hl : lv_has ls 1 [(0, .ref (ad x0))]) : GA p l e 1 s m args below meth c D cA z ac E0 ad0 S0 (fun _ => none) S' S H locs (F0 m 31 ls [.ref (ad y0), .ref (ad y1)]) := by
  obtain ⟨⟨hx, hb, hml, hown, hts⟩, hK, hr, hlo⟩ := id C
  have hF : MN S S' := m_M_init_31 h
  unfold f_M_init_b31 at h
  obtain ⟨g27, h⟩ := gd_some h
  obtain ⟨g29, h⟩ := gd_some h
  obtain ⟨S28, eS28, h⟩ := lt_some h
  refine hp_fin (j := y0) C hnm hW hS y1 12 g27.2 g27.1 q_M (by decide) rfl rfl kf_M_21 rfl rfl rfl rfl (Or.inl g29) rfl eS28 d_M_init_31 (fun H locs hW hS => ?_)
  have hkS28 : S28.2.2.2 = S.2.2.2 := by rw [eS28]; rfl
  refine ac_w hkS28 ?_
  have hT := hT.k hkS28
  have hF := hF.kL hkS28
  refine lv_aload_n hx hb d_M_init_34 rfl (lv_at hl 0 rfl) ?_
  refine lv_bipush (v := 64) hx hb d_M_init_35 (by decide) ?_
  obtain ⟨i30, ei30, h⟩ := lt_some h
  obtain ⟨g31, h⟩ := gd_some h
  obtain ⟨g32, h⟩ := gd_some h
  obtain ⟨g33, h⟩ := gd_some h
  obtain ⟨S34, eS34, h⟩ := lt_some h
  have hX := hW
  refine hn_a (atype := .int) (ty := .int) (i := i30) (t := 1) (n := 64) C hW hS hT (hW.zl g32) g33.1 (by decide) g33.2.1 g33.2.2.1 g33.2.2.2 (fun _ => rfl) eS34 rfl rfl (fun _ => rfl) ⟨by decide, by decide⟩ (fun _ h => by cases h) ka_int (by decide) rfl (by decide) (MN.le (m_M_init_39 h) _) d_M_init_37 (fun ad35 H hA hT hW hS => ?_)
  have hl : lv_has ls 1 [(0, .ref (ad35 x0))] := by rw [hA x0 g31]; exact lv_sub hl [0] rfl
  rw [← hA x0 g31]
  exact w_M_init_39 C hnm x0 i30 x0 h hT hW hS (lv_sub hl [0] rfl)
set_option maxHeartbeats 4000000 in
set_option maxRecDepth 100000 in
theorem w_M_init_23 {ad0 ad : Nat → Nat} {S0 : HS} (C : CB p s m args c meth b_M_init "TwoLevelParserModel" 1 none D cA z ac) (hnm : meth.name = "<init>") {S' : HS} (x0 : Nat) (y0 : Nat) (y1 : Nat) {S : HS} {H : Heap} {locs : List Loc} {ls : Array Slot} (h : f_M_init_b23 x0 y0 y1 S = some S') (hT : AC S0 ad0 S ad) (hW : HW D cA z ac E0 ad S H) (hS : va_S (zA z) s.heap H locs) (hl : lv_has ls 1 [(0, .ref (ad x0))]) : GA p l e 1 s m args below meth c D cA z ac E0 ad0 S0 (fun _ => none) S' S H locs (F0 m 23 ls [.ref (ad y0), .ref (ad y1)]) := by
  obtain ⟨⟨hx, hb, hml, hown, hts⟩, hK, hr, hlo⟩ := id C
  have hF : MN S S' := m_M_init_23 h
  unfold f_M_init_b23 at h
  obtain ⟨g18, h⟩ := gd_some h
  obtain ⟨g20, h⟩ := gd_some h
  obtain ⟨S19, eS19, h⟩ := lt_some h
  refine hp_fin (j := y0) C hnm hW hS y1 11 g18.2 g18.1 q_M (by decide) rfl rfl kf_M_17 rfl rfl rfl rfl (Or.inl g20) rfl eS19 d_M_init_23 (fun H locs hW hS => ?_)
  have hkS19 : S19.2.2.2 = S.2.2.2 := by rw [eS19]; rfl
  refine ac_w hkS19 ?_
  have hT := hT.k hkS19
  have hF := hF.kL hkS19
  refine lv_aload_n hx hb d_M_init_26 rfl (lv_at hl 0 rfl) ?_
  refine lv_bipush (v := 64) hx hb d_M_init_27 (by decide) ?_
  obtain ⟨i21, ei21, h⟩ := lt_some h
  obtain ⟨g22, h⟩ := gd_some h
  obtain ⟨g23, h⟩ := gd_some h
  obtain ⟨g24, h⟩ := gd_some h
  obtain ⟨S25, eS25, h⟩ := lt_some h
  have hX := hW
  refine hn_a (atype := .int) (ty := .int) (i := i21) (t := 1) (n := 64) C hW hS hT (hW.zl g23) g24.1 (by decide) g24.2.1 g24.2.2.1 g24.2.2.2 (fun _ => rfl) eS25 rfl rfl (fun _ => rfl) ⟨by decide, by decide⟩ (fun _ h => by cases h) ka_int (by decide) rfl (by decide) (MN.le (m_M_init_31 h) _) d_M_init_29 (fun ad26 H hA hT hW hS => ?_)
  have hl : lv_has ls 1 [(0, .ref (ad26 x0))] := by rw [hA x0 g22]; exact lv_sub hl [0] rfl
  rw [← hA x0 g22]
  exact w_M_init_31 C hnm x0 i21 x0 h hT hW hS (lv_sub hl [0] rfl)
set_option maxHeartbeats 4000000 in
set_option maxRecDepth 100000 in
theorem w_M_init_10 {ad0 ad : Nat → Nat} {S0 : HS} (C : CB p s m args c meth b_M_init "TwoLevelParserModel" 1 none D cA z ac) (hnm : meth.name = "<init>") {S' : HS} (x0 : Nat) (y0 : Nat) (y1 : Nat) {S : HS} {H : Heap} {locs : List Loc} {ls : Array Slot} (h : f_M_init_b10 x0 y0 y1 S = some S') (hT : AC S0 ad0 S ad) (hW : HW D cA z ac E0 ad S H) (hS : va_S (zA z) s.heap H locs) (hl : lv_has ls 1 [(0, .ref (ad x0))]) : GA p l e 1 s m args below meth c D cA z ac E0 ad0 S0 (fun _ => none) S' S H locs (F0 m 10 ls [.ref (ad y0), .ref (ad y1)]) := by
  obtain ⟨⟨hx, hb, hml, hown, hts⟩, hK, hr, hlo⟩ := id C
  have hF : MN S S' := m_M_init_10 h
  unfold f_M_init_b10 at h
  obtain ⟨g7, h⟩ := gd_some h
  obtain ⟨g9, h⟩ := gd_some h
  obtain ⟨S8, eS8, h⟩ := lt_some h
  refine hp_fin (j := y0) C hnm hW hS y1 1 g7.2 g7.1 q_M (by decide) rfl rfl kf_M_7 rfl rfl rfl rfl (Or.inl g9) rfl eS8 d_M_init_10 (fun H locs hW hS => ?_)
  have hkS8 : S8.2.2.2 = S.2.2.2 := by rw [eS8]; rfl
  refine ac_w hkS8 ?_
  have hT := hT.k hkS8
  have hF := hF.kL hkS8
  refine lv_aload_n hx hb d_M_init_13 rfl (lv_at hl 0 rfl) ?_
  refine lv_iconst (v := -1) hx hb d_M_init_14 (by decide) ?_
  obtain ⟨g10, h⟩ := gd_some h
  obtain ⟨S11, eS11, h⟩ := lt_some h
  refine hp_i C hW hS x0 4 g10.2 g10.1 q_M (by decide) rfl rfl rfl (lkF C kf_M_13) eS11 d_M_init_15 (fun H locs hW hS => ?_)
  have hkS11 : S11.2.2.2 = S8.2.2.2 := by rw [eS11]; rfl
  refine ac_w hkS11 ?_
  have hT := hT.k hkS11
  have hF := hF.kL hkS11
  refine lv_aload_n hx hb d_M_init_18 rfl (lv_at hl 0 rfl) ?_
  refine lv_bipush (v := 64) hx hb d_M_init_19 (by decide) ?_
  obtain ⟨i12, ei12, h⟩ := lt_some h
  obtain ⟨g13, h⟩ := gd_some h
  obtain ⟨g14, h⟩ := gd_some h
  obtain ⟨g15, h⟩ := gd_some h
  obtain ⟨S16, eS16, h⟩ := lt_some h
  have hX := hW
  refine hn_a (atype := .int) (ty := .int) (i := i12) (t := 1) (n := 64) C hW hS hT (hW.zl g14) g15.1 (by decide) g15.2.1 g15.2.2.1 g15.2.2.2 (fun _ => rfl) eS16 rfl rfl (fun _ => rfl) ⟨by decide, by decide⟩ (fun _ h => by cases h) ka_int (by decide) rfl (by decide) (MN.le (m_M_init_23 h) _) d_M_init_21 (fun ad17 H hA hT hW hS => ?_)
  have hl : lv_has ls 1 [(0, .ref (ad17 x0))] := by rw [hA x0 g13]; exact lv_sub hl [0] rfl
  rw [← hA x0 g13]
  exact w_M_init_23 C hnm x0 i12 x0 h hT hW hS (lv_sub hl [0] rfl)
set_option maxHeartbeats 4000000 in
set_option maxRecDepth 100000 in
theorem s_M_init (x0 : Nat) {ad : Nat → Nat} {S : HS} {S' : HS} (h : f_M_init x0 S = some S') : Met l y_M_init (.code y_M_init b_M_init 1 none :: lw_g) (rmD 1 (gC S' - gC S) (gN S' - gN S)) (PcH D cA z ac E0 ad [.ref (ad x0)] S) (QA D cA z ac E0 ad S (fun _ => none) S') (gC S' - gC S) (gN S' - gN S) (zA z) := by
  refine Met.ofHA (own := "TwoLevelParserModel") (by decide) rfl (Nat.le_of_ble_eq_true rfl) ?_
  intro p e s m args below meth c H ls C hnm hW hS hl
  have hl : lv_has ls 1 [(0, .ref (ad x0))] := hl
  obtain ⟨⟨hx, hb, hml, hown, hts⟩, hK, hr, hlo⟩ := id C
  have hF : MN S S' := m_M_init h
  have hT : AC S ad S ad := AC.rf
  unfold f_M_init at h
  refine lv_aload_n hx hb d_M_init_0 rfl (lv_at hl 0 rfl) ?_
  refine W.objInit hx hb hown (hts _ km_M_1) (hts _ ko_ins) (hts _ ko_code) rfl (by rw [hml]; exact hl.1) rfl d_M_init_1 (Nat.le_of_ble_eq_true rfl) (Nat.le_of_ble_eq_true rfl) ?_
  refine lv_aload_n hx hb d_M_init_4 rfl (lv_at hl 0 rfl) ?_
  refine lv_sipush (v := 8192) hx hb d_M_init_5 (by decide) ?_
  obtain ⟨i1, ei1, h⟩ := lt_some h
  obtain ⟨g2, h⟩ := gd_some h
  obtain ⟨g3, h⟩ := gd_some h
  obtain ⟨g4, h⟩ := gd_some h
  obtain ⟨S5, eS5, h⟩ := lt_some h
  have hX := hW
  refine hn_a (atype := .byte) (ty := .byte) (i := i1) (t := 0) (n := 8192) C hW hS hT (hW.zl g3) g4.1 (by decide) g4.2.1 g4.2.2.1 g4.2.2.2 (fun _ => rfl) eS5 rfl rfl (fun _ => rfl) ⟨by decide, by decide⟩ (fun _ h => by cases h) ka_byte (by decide) rfl (by decide) (MN.le (m_M_init_10 h) _) d_M_init_8 (fun ad6 H hA hT hW hS => ?_)
  have hl : lv_has ls 1 [(0, .ref (ad6 x0))] := by rw [hA x0 g2]; exact lv_sub hl [0] rfl
  rw [← hA x0 g2]
  exact w_M_init_10 C hnm x0 i1 x0 h hT hW hS (lv_sub hl [0] rfl)
end WA
