-- printed by gen/walk.py
def f_M_readDefinition_b148 (n : Nat) (kc : Int32 → Int32 → Int32 → HS → Option HS) (x1 : Int32) (x3 : Int32) (y0 : Int32) (S : HS) : Option HS :=
  lt y0 fun v17 =>
  lt (x3 + 1) fun v18 =>
  kc x1 v17 v18 S
def f_M_readDefinition_b143 (n : Nat) (kc : Int32 → Int32 → Int32 → HS → Option HS) (x1 : Int32) (x3 : Int32) (S : HS) : Option HS :=
  f_M_readDefinition_b148 n kc x1 x3 (1 : Int32) S
def f_M_readDefinition_b292 (n : Nat) (kc : Int32 → Int32 → HS → Option HS) (x1 : Int32) (y0 : Int32) (S : HS) : Option HS :=
  lt y0 fun v43 =>
  (if v43 = 0 then
  kc x1 v43 S
  else
  (if (gF S 200 3) = 0 then
  ob (f_M_readParameter n x1 S) fun S44 =>
  kc x1 v43 S44
  else
  kc x1 v43 S))
def f_M_readDefinition_b276 (n : Nat) (kc : Int32 → Int32 → HS → Option HS) (x1 : Int32) (y0 : Int32) (S : HS) : Option HS :=
  ob2 (f_M_must y0 S) fun r37 S36 =>
  (if (gF S36 200 6) = 0 then
  f_M_readDefinition_b292 n kc x1 (1 : Int32) S36
  else
  f_M_readDefinition_b292 n kc x1 (0 : Int32) S36)
def f_M_readDefinition_b271 (n : Nat) (kc : Int32 → Int32 → HS → Option HS) (x1 : Int32) (S : HS) : Option HS :=
  f_M_readDefinition_b276 n kc x1 (1 : Int32) S
def f_M_readDefinition_b459 (n : Nat) (S : HS) : Option HS :=
  lt (sF S 200 10 ((gF S 200 10) + (1 : Int32))) fun S50 =>
  some S50
def f_M_readDefinition_b455 (n : Nat) (y0 : Int32) (S : HS) : Option HS :=
  ob2 (f_M_must y0 S) fun r52 S51 =>
  f_M_readDefinition_b459 n S51
def f_M_readDefinition_b430 (n : Nat) (S : HS) : Option HS :=
  (if (gF S 200 3) = 0 then
  ob (f_M_next n S) fun S45 =>
  (if (gF S45 200 6) = (1 : Int32) then
  f_M_readDefinition_b455 n (1 : Int32) S45
  else
  f_M_readDefinition_b455 n (0 : Int32) S45)
  else
  f_M_readDefinition_b459 n S)
def f_M_readDefinition_b427 (n : Nat) (y0 : Int32) (S : HS) : Option HS :=
  ob (f_M_expression n y0 S) fun S46 =>
  f_M_readDefinition_b430 n S46
def f_M_readDefinition_b385 (n : Nat) (x1 : Int32) (S : HS) : Option HS :=
  gd (inR x1 64) <|
  lt (sF S 214 x1.toNatClampNeg (gF S 200 19)) fun S39 =>
  gd (inR x1 64) <|
  lt (sF S39 200 32 (gF S39 213 x1.toNatClampNeg)) fun S41 =>
  (if (gF S41 200 3) = 0 then
  gd (inR x1 64) <|
  (if (gF S41 211 x1.toNatClampNeg) = 0 then
  f_M_readDefinition_b427 n (1 : Int32) S41
  else
  f_M_readDefinition_b427 n (0 : Int32) S41)
  else
  f_M_readDefinition_b430 n S41)
def f_M_readDefinition_b384 (n : Nat) (x1 : Int32) (y0 : Int32) (y1 : Int32) (S : HS) : Option HS :=
  gd (inR y1 64) <|
  lt (sF S 212 y1.toNatClampNeg y0) fun S54 =>
  f_M_readDefinition_b385 n x1 S54
def f_M_readDefinition_b360 (n : Nat) (x1 : Int32) (y0 : Int32) (S : HS) : Option HS :=
  ob2 (f_M_must y0 S) fun r48 S47 =>
  (if (gF S47 200 3) ≤ 0 then
  ob (f_M_type n S47) fun r49 =>
  f_M_readDefinition_b384 n x1 r49 x1 S47
  else
  f_M_readDefinition_b384 n x1 (0 : Int32) x1 S47)
def f_M_readDefinition_b355 (n : Nat) (x1 : Int32) (S : HS) : Option HS :=
  f_M_readDefinition_b360 n x1 (1 : Int32) S
def f_M_readDefinition_b359 (n : Nat) (x1 : Int32) (S : HS) : Option HS :=
  f_M_readDefinition_b360 n x1 (0 : Int32) S
def f_M_readDefinition_b312 (n : Nat) (x1 : Int32) (S : HS) : Option HS :=
  (if (gF S 200 3) = 0 then
  ob (f_M_next n S) fun S32 =>
  (if 0 < (gF S32 200 3) then
  f_M_readDefinition_b355 n x1 S32
  else
  ob (f_M_type n S32) fun r33 =>
  (if r33 < 0 then
  f_M_readDefinition_b359 n x1 S32
  else
  gd (inR x1 64) <|
  (if (gF S32 211 x1.toNatClampNeg) = 0 then
  f_M_readDefinition_b355 n x1 S32
  else
  ob (f_M_type n S32) fun r35 =>
  (if (2 : Int32) ≤ r35 then
  f_M_readDefinition_b359 n x1 S32
  else
  f_M_readDefinition_b355 n x1 S32))))
  else
  f_M_readDefinition_b385 n x1 S)
def f_M_readDefinition_b240B (n : Nat) (kc : Int32 → Int32 → HS → Option HS) (x1 : Int32) (x3 : Int32) (S : HS) : Option HS :=
  (if x3 = 0 then
  f_M_readDefinition_b312 n x1 S
  else
  (if (gF S 200 3) = 0 then
  ob (f_M_next n S) fun S31 =>
  (if (gF S31 200 6) = 0 then
  f_M_readDefinition_b271 n kc x1 S31
  else
  (if (gF S31 200 6) = (1 : Int32) then
  f_M_readDefinition_b271 n kc x1 S31
  else
  f_M_readDefinition_b276 n kc x1 (0 : Int32) S31))
  else
  f_M_readDefinition_b312 n x1 S))
def f_M_readDefinition_b240 (n : Nat) (k : Nat) : Int32 → Int32 → HS → Option HS := lpF (fun _ _ _ => none) (f_M_readDefinition_b240B n) k
def f_M_readDefinition_b238 (n : Nat) (x1 : Int32) (S : HS) : Option HS :=
  lt (1 : Int32) fun v28 =>
  f_M_readDefinition_b240 n n x1 v28 S
def f_M_readDefinition_b234 (n : Nat) (x1 : Int32) (y0 : Int32) (S : HS) : Option HS :=
  ob2 (f_M_must y0 S) fun r30 S29 =>
  f_M_readDefinition_b238 n x1 S29
def f_M_readDefinition_b179 (n : Nat) (x1 : Int32) (y0 : Int32) (S : HS) : Option HS :=
  ob2 (f_M_must y0 S) fun r20 S19 =>
  gd (inR x1 64) <|
  lt (sL S19 216 x1.toNatClampNeg (gL S19 200 8)) fun S22 =>
  gd (inR x1 64) <|
  lt (sF S22 215 x1.toNatClampNeg (gF S22 200 7)) fun S24 =>
  gd (inR x1 64) <|
  lt (sF S24 213 x1.toNatClampNeg (0 : Int32)) fun S26 =>
  (if (gF S26 200 3) = 0 then
  ob (f_M_next n S26) fun S27 =>
  (if (gF S27 200 6) = 0 then
  f_M_readDefinition_b234 n x1 (1 : Int32) S27
  else
  f_M_readDefinition_b234 n x1 (0 : Int32) S27)
  else
  f_M_readDefinition_b238 n x1 S26)
def f_M_readDefinition_b174 (n : Nat) (x1 : Int32) (S : HS) : Option HS :=
  f_M_readDefinition_b179 n x1 (1 : Int32) S
def f_M_readDefinition_b178 (n : Nat) (x1 : Int32) (S : HS) : Option HS :=
  f_M_readDefinition_b179 n x1 (0 : Int32) S
def f_M_readDefinition_b120B (n : Nat) (kc : Int32 → Int32 → Int32 → HS → Option HS) (x1 : Int32) (x2 : Int32) (x3 : Int32) (S : HS) : Option HS :=
  (if x1 ≤ x3 then
  (if 0 < (gF S 200 3) then
  f_M_readDefinition_b174 n x1 S
  else
  ob (f_M_isOwn n S) fun r15 =>
  (if r15 = 0 then
  f_M_readDefinition_b178 n x1 S
  else
  (if x2 = 0 then
  f_M_readDefinition_b174 n x1 S
  else
  f_M_readDefinition_b178 n x1 S)))
  else
  (if x2 = 0 then
  gd (inR x3 64) <|
  (if (lg_cmp (gL S 216 x3.toNatClampNeg) (gL S 200 8)) = 0 then
  f_M_readDefinition_b143 n kc x1 x3 S
  else
  f_M_readDefinition_b148 n kc x1 x3 (0 : Int32) S)
  else
  f_M_readDefinition_b143 n kc x1 x3 S))
def f_M_readDefinition_b120 (n : Nat) (k : Nat) : Int32 → Int32 → Int32 → HS → Option HS := lpF (fun _ _ _ _ => none) (f_M_readDefinition_b120B n) k
def f_M_readDefinition_b116 (n : Nat) (x1 : Int32) (S : HS) : Option HS :=
  lt (0 : Int32) fun v13 =>
  lt (0 : Int32) fun v14 =>
  f_M_readDefinition_b120 n n x1 v13 v14 S
def f_M_readDefinition_b104 (n : Nat) (x1 : Int32) (y0 : Int32) (y1 : Int32) (S : HS) : Option HS :=
  gd (inR y1 64) <|
  lt (sF S 211 y1.toNatClampNeg y0) fun S11 =>
  (if (gF S11 200 3) = 0 then
  ob (f_M_next n S11) fun S12 =>
  f_M_readDefinition_b116 n x1 S12
  else
  f_M_readDefinition_b116 n x1 S11)
def f_M_readDefinition_b103 (n : Nat) (x1 : Int32) (y0 : Int32) (S : HS) : Option HS :=
  f_M_readDefinition_b104 n x1 (0 : Int32) y0 S
def f_M_readDefinition_b74 (n : Nat) (x1 : Int32) (y0 : Int32) (S : HS) : Option HS :=
  ob2 (f_M_must y0 S) fun r8 S7 =>
  (if (gF S7 200 3) = 0 then
  ob (f_M_is n 336 S7) fun r9 =>
  (if r9 = 0 then
  f_M_readDefinition_b103 n x1 x1 S7
  else
  f_M_readDefinition_b104 n x1 (1 : Int32) x1 S7)
  else
  f_M_readDefinition_b103 n x1 x1 S7)
def f_M_readDefinition_b69 (n : Nat) (x1 : Int32) (S : HS) : Option HS :=
  f_M_readDefinition_b74 n x1 (1 : Int32) S
def f_M_readDefinition_b22 (n : Nat) (y0 : Int32) (S : HS) : Option HS :=
  ob2 (f_M_must y0 S) fun r2 S1 =>
  (if (gF S1 200 3) ≤ 0 then
  lt (gF S1 200 10) fun v3 =>
  ob (f_M_next n S1) fun S4 =>
  (if 0 < (gF S4 200 3) then
  f_M_readDefinition_b69 n v3 S4
  else
  ob (f_M_is n 335 S4) fun r5 =>
  (if r5 = 0 then
  ob (f_M_is n 336 S4) fun r6 =>
  (if r6 = 0 then
  f_M_readDefinition_b74 n v3 (0 : Int32) S4
  else
  f_M_readDefinition_b69 n v3 S4)
  else
  f_M_readDefinition_b69 n v3 S4))
  else
  some S1)
def f_M_readDefinition_b21 (n : Nat) (S : HS) : Option HS :=
  f_M_readDefinition_b22 n (0 : Int32) S
def f_M_readDefinition (n : Nat) (S : HS) : Option HS :=
  (if (gF S 200 6) = 0 then
  (if (64 : Int32) ≤ (gF S 200 10) then
  f_M_readDefinition_b21 n S
  else
  f_M_readDefinition_b22 n (1 : Int32) S)
  else
  f_M_readDefinition_b21 n S)
section WK
variable {p : Program} {l : Launch} {e : Env} {s : State} {m : MethodId} {args : Array Value} {below : List Frame} {meth : Method} {c : Code} {D : va_G} {cA : Nat → ClassId} {z : Nat} {ac : Nat → Nat} {ad : Nat → Nat}
set_option maxHeartbeats 4000000 in
set_option maxRecDepth 100000 in
theorem w_M_readDefinition_148 (C : CB p s m args c meth b_M_readDefinition "TwoLevelParserModel" 4 none D cA z ac) (n : Nat) (kc : Int32 → Int32 → Int32 → HS → Option HS) {S' : HS} (hk : ∀ (x1 : Int32) (x2 : Int32) (x3 : Int32) (S : HS) {H : Heap} {locs : List Loc} {ls : Array Slot}, kc x1 x2 x3 S = some S' → HW D cA z ac E1 ad S H → va_S (zA z) s.heap H locs → lv_has ls 4 [(0, .ref (ad 200)), (1, .int (x1)), (2, .int (x2)), (3, .int (x3))] → GW p l e 11 s m args below meth c D cA z ac E1 ad none S' H locs (F0 m 120 ls [])) (x1 : Int32) (x3 : Int32) (y0 : Int32) {S : HS} {H : Heap} {locs : List Loc} {ls : Array Slot} (h : f_M_readDefinition_b148 n kc x1 x3 y0 S = some S') (hW : HW D cA z ac E1 ad S H) (hS : va_S (zA z) s.heap H locs) (hl : lv_has ls 4 [(0, .ref (ad 200)), (1, .int (x1)), (3, .int (x3))]) : GW p l e 11 s m args below meth c D cA z ac E1 ad none S' H locs (F0 m 148 ls [.int (y0)]) := by
  obtain ⟨⟨hx, hb, hml, hown, hts⟩, hK, hr, hlo⟩ := id C
  unfold f_M_readDefinition_b148 at h
  obtain ⟨v17, ev17, h⟩ := lt_some h
  refine lt_i_n (lv' := [(2, .int (v17)), (0, .ref (ad 200)), (1, .int (x1)), (3, .int (x3))]) C d_M_readDefinition_148 rfl hl (by decide) ev17 rfl (fun ls hl => ?_)
  obtain ⟨v18, ev18, h⟩ := lt_some h
  refine lv_iinc (v := v18) (lv' := [(3, .int (v18)), (2, .int (v17)), (0, .ref (ad 200)), (1, .int (x1))]) hx hb d_M_readDefinition_149 hl (k := 3) rfl (by rw [ev18]; rfl) (by decide) rfl (fun ls hl => ?_)
  refine lv_goto (tgt := 120) hx hb d_M_readDefinition_152 (by decide) ?_
  exact hk _ _ _ _ h hW hS (lv_sub hl [2, 3, 1, 0] rfl)
set_option maxHeartbeats 4000000 in
set_option maxRecDepth 100000 in
theorem w_M_readDefinition_143 (C : CB p s m args c meth b_M_readDefinition "TwoLevelParserModel" 4 none D cA z ac) (n : Nat) (kc : Int32 → Int32 → Int32 → HS → Option HS) {S' : HS} (hk : ∀ (x1 : Int32) (x2 : Int32) (x3 : Int32) (S : HS) {H : Heap} {locs : List Loc} {ls : Array Slot}, kc x1 x2 x3 S = some S' → HW D cA z ac E1 ad S H → va_S (zA z) s.heap H locs → lv_has ls 4 [(0, .ref (ad 200)), (1, .int (x1)), (2, .int (x2)), (3, .int (x3))] → GW p l e 11 s m args below meth c D cA z ac E1 ad none S' H locs (F0 m 120 ls [])) (x1 : Int32) (x3 : Int32) {S : HS} {H : Heap} {locs : List Loc} {ls : Array Slot} (h : f_M_readDefinition_b143 n kc x1 x3 S = some S') (hW : HW D cA z ac E1 ad S H) (hS : va_S (zA z) s.heap H locs) (hl : lv_has ls 4 [(0, .ref (ad 200)), (1, .int (x1)), (3, .int (x3))]) : GW p l e 11 s m args below meth c D cA z ac E1 ad none S' H locs (F0 m 143 ls []) := by
  obtain ⟨⟨hx, hb, hml, hown, hts⟩, hK, hr, hlo⟩ := id C
  unfold f_M_readDefinition_b143 at h
  refine lv_iconst (v := 1) hx hb d_M_readDefinition_143 (by decide) ?_
  refine lv_goto (tgt := 148) hx hb d_M_readDefinition_144 (by decide) ?_
  exact w_M_readDefinition_148 C n kc hk x1 x3 (1 : Int32) h hW hS (lv_sub hl [0, 1, 2] rfl)
set_option maxHeartbeats 4000000 in
set_option maxRecDepth 100000 in
theorem w_M_readDefinition_292 (C : CB p s m args c meth b_M_readDefinition "TwoLevelParserModel" 4 none D cA z ac) (n : Nat) (kc : Int32 → Int32 → HS → Option HS) {S' : HS} (hk : ∀ (x1 : Int32) (x3 : Int32) (S : HS) {H : Heap} {locs : List Loc} {ls : Array Slot}, kc x1 x3 S = some S' → HW D cA z ac E1 ad S H → va_S (zA z) s.heap H locs → lv_has ls 4 [(0, .ref (ad 200)), (1, .int (x1)), (3, .int (x3))] → GW p l e 11 s m args below meth c D cA z ac E1 ad none S' H locs (F0 m 240 ls [])) (x1 : Int32) (y0 : Int32) {S : HS} {H : Heap} {locs : List Loc} {ls : Array Slot} (h : f_M_readDefinition_b292 n kc x1 y0 S = some S') (hW : HW D cA z ac E1 ad S H) (hS : va_S (zA z) s.heap H locs) (hl : lv_has ls 4 [(0, .ref (ad 200)), (1, .int (x1))]) : GW p l e 11 s m args below meth c D cA z ac E1 ad none S' H locs (F0 m 292 ls [.int (y0)]) := by
  obtain ⟨⟨hx, hb, hml, hown, hts⟩, hK, hr, hlo⟩ := id C
  unfold f_M_readDefinition_b292 at h
  obtain ⟨v43, ev43, h⟩ := lt_some h
  refine lt_i_n (lv' := [(3, .int (v43)), (0, .ref (ad 200)), (1, .int (x1))]) C d_M_readDefinition_292 rfl hl (by decide) ev43 rfl (fun ls hl => ?_)
  refine lv_iload_n hx hb d_M_readDefinition_293 rfl (lv_at hl 0 rfl) ?_
  refine lv_if_eq (tgt := 240) hx hb d_M_readDefinition_294 (by decide) (fun c294 => ?_) (fun c294 => ?_)
  · have h := ite_t c294 h
    exact hk _ _ _ h hW hS (lv_sub hl [1, 2, 0] rfl)
  · have h := ite_f c294 h
    refine lv_aload_n hx hb d_M_readDefinition_297 rfl (lv_at hl 1 rfl) ?_
    refine hg_i C hW 200 3 (hW.fx 200 rfl) rfl q_M (by decide) rfl (lkF C kf_M_83) d_M_readDefinition_298 ?_
    refine lv_if_ne (tgt := 240) hx hb d_M_readDefinition_301 (by decide) (fun c301 => ?_) (fun c301 => ?_)
    · have h := ite_f c301 h
      exact hk _ _ _ h hW hS (lv_sub hl [1, 2, 0] rfl)
    · have h := ite_t c301 h
      refine lv_aload_n hx hb d_M_readDefinition_304 rfl (lv_at hl 1 rfl) ?_
      refine lv_iload_n hx hb d_M_readDefinition_305 rfl (lv_at hl 2 rfl) ?_
      obtain ⟨S44, eS44, h⟩ := ob_some h
      refine hx_V (i := 200) (As := [.int (x1)]) (rest := []) C hW hS (s_M_readParameter n x1 eS44) km_M_254 kv_M_readParameter ke_M_readParameter kn_M kw_M_readParameter kd_M_readParameter (hW.fx 200 rfl) rfl q_M rfl ⟨by decide, by decide⟩ ⟨Nat.zero_le _, Nat.zero_le _⟩ rfl hl.1 rfl (Nat.le_of_ble_eq_true rfl) d_M_readDefinition_306 (fun H locs hW hS => ?_)
      refine lv_goto (tgt := 240) hx hb d_M_readDefinition_309 (by decide) ?_
      exact hk _ _ _ h hW hS (lv_sub hl [1, 2, 0] rfl)
set_option maxHeartbeats 4000000 in
set_option maxRecDepth 100000 in
theorem w_M_readDefinition_276 (C : CB p s m args c meth b_M_readDefinition "TwoLevelParserModel" 4 none D cA z ac) (n : Nat) (kc : Int32 → Int32 → HS → Option HS) {S' : HS} (hk : ∀ (x1 : Int32) (x3 : Int32) (S : HS) {H : Heap} {locs : List Loc} {ls : Array Slot}, kc x1 x3 S = some S' → HW D cA z ac E1 ad S H → va_S (zA z) s.heap H locs → lv_has ls 4 [(0, .ref (ad 200)), (1, .int (x1)), (3, .int (x3))] → GW p l e 11 s m args below meth c D cA z ac E1 ad none S' H locs (F0 m 240 ls [])) (x1 : Int32) (y0 : Int32) {S : HS} {H : Heap} {locs : List Loc} {ls : Array Slot} (h : f_M_readDefinition_b276 n kc x1 y0 S = some S') (hW : HW D cA z ac E1 ad S H) (hS : va_S (zA z) s.heap H locs) (hl : lv_has ls 4 [(0, .ref (ad 200)), (1, .int (x1))]) : GW p l e 11 s m args below meth c D cA z ac E1 ad none S' H locs (F0 m 276 ls [.int (y0), .ref (ad 200)]) := by
  obtain ⟨⟨hx, hb, hml, hown, hts⟩, hK, hr, hlo⟩ := id C
  unfold f_M_readDefinition_b276 at h
  obtain ⟨r37, S36, eS36, h⟩ := ob2_some h
  refine hx_V (i := 200) (As := [.int (y0)]) (rest := []) C hW hS (s_M_must y0 eS36) km_M_213 kv_M_must ke_M_must kn_M kw_M_must kd_M_must (hW.fx 200 rfl) rfl q_M rfl ⟨by decide, by decide⟩ ⟨Nat.zero_le _, Nat.zero_le _⟩ rfl hl.1 rfl (Nat.le_of_ble_eq_true rfl) d_M_readDefinition_276 (fun H locs hW hS => ?_)
  refine lv_pop hx hb d_M_readDefinition_279 rfl ?_
  refine lv_aload_n hx hb d_M_readDefinition_280 rfl (lv_at hl 0 rfl) ?_
  refine hg_i C hW 200 6 (hW.fx 200 rfl) rfl q_M (by decide) rfl (lkF C kf_M_99) d_M_readDefinition_281 ?_
  refine lv_if_ne (tgt := 291) hx hb d_M_readDefinition_284 (by decide) (fun c284 => ?_) (fun c284 => ?_)
  · have h := ite_f c284 h
    refine lv_iconst (v := 0) hx hb d_M_readDefinition_291 (by decide) ?_
    exact w_M_readDefinition_292 C n kc hk x1 (0 : Int32) h hW hS (lv_sub hl [0, 1] rfl)
  · have h := ite_t c284 h
    refine lv_iconst (v := 1) hx hb d_M_readDefinition_287 (by decide) ?_
    refine lv_goto (tgt := 292) hx hb d_M_readDefinition_288 (by decide) ?_
    exact w_M_readDefinition_292 C n kc hk x1 (1 : Int32) h hW hS (lv_sub hl [0, 1] rfl)
set_option maxHeartbeats 4000000 in
set_option maxRecDepth 100000 in
theorem w_M_readDefinition_271 (C : CB p s m args c meth b_M_readDefinition "TwoLevelParserModel" 4 none D cA z ac) (n : Nat) (kc : Int32 → Int32 → HS → Option HS) {S' : HS} (hk : ∀ (x1 : Int32) (x3 : Int32) (S : HS) {H : Heap} {locs : List Loc} {ls : Array Slot}, kc x1 x3 S = some S' → HW D cA z ac E1 ad S H → va_S (zA z) s.heap H locs → lv_has ls 4 [(0, .ref (ad 200)), (1, .int (x1)), (3, .int (x3))] → GW p l e 11 s m args below meth c D cA z ac E1 ad none S' H locs (F0 m 240 ls [])) (x1 : Int32) {S : HS} {H : Heap} {locs : List Loc} {ls : Array Slot} (h : f_M_readDefinition_b271 n kc x1 S = some S') (hW : HW D cA z ac E1 ad S H) (hS : va_S (zA z) s.heap H locs) (hl : lv_has ls 4 [(0, .ref (ad 200)), (1, .int (x1))]) : GW p l e 11 s m args below meth c D cA z ac E1 ad none S' H locs (F0 m 271 ls [.ref (ad 200)]) := by
  obtain ⟨⟨hx, hb, hml, hown, hts⟩, hK, hr, hlo⟩ := id C
  unfold f_M_readDefinition_b271 at h
  refine lv_iconst (v := 1) hx hb d_M_readDefinition_271 (by decide) ?_
  refine lv_goto (tgt := 276) hx hb d_M_readDefinition_272 (by decide) ?_
  exact w_M_readDefinition_276 C n kc hk x1 (1 : Int32) h hW hS (lv_sub hl [0, 1] rfl)
set_option maxHeartbeats 4000000 in
set_option maxRecDepth 100000 in
theorem w_M_readDefinition_459 (C : CB p s m args c meth b_M_readDefinition "TwoLevelParserModel" 4 none D cA z ac) (n : Nat) {S' : HS} {S : HS} {H : Heap} {locs : List Loc} {ls : Array Slot} (h : f_M_readDefinition_b459 n S = some S') (hW : HW D cA z ac E1 ad S H) (hS : va_S (zA z) s.heap H locs) (hl : lv_has ls 4 [(0, .ref (ad 200))]) : GW p l e 11 s m args below meth c D cA z ac E1 ad none S' H locs (F0 m 459 ls []) := by
  obtain ⟨⟨hx, hb, hml, hown, hts⟩, hK, hr, hlo⟩ := id C
  unfold f_M_readDefinition_b459 at h
  refine lv_aload_n hx hb d_M_readDefinition_459 rfl (lv_at hl 0 rfl) ?_
  refine lv_dup hx hb d_M_readDefinition_460 rfl ?_
  refine hg_i C hW 200 10 (hW.fx 200 rfl) rfl q_M (by decide) rfl (lkF C kf_M_251) d_M_readDefinition_461 ?_
  refine lv_iconst (v := 1) hx hb d_M_readDefinition_464 (by decide) ?_
  refine lv_iadd hx hb d_M_readDefinition_465 ?_
  obtain ⟨S50, eS50, h⟩ := lt_some h
  refine hp_i C hW hS 200 10 (hW.fx 200 rfl) rfl q_M (by decide) rfl rfl rfl (lkF C kf_M_251) eS50 d_M_readDefinition_466 (fun H locs hW hS => ?_)
  have h := Option.some.inj h
  subst h
  exact he_v C hW hS d_M_readDefinition_469
set_option maxHeartbeats 4000000 in
set_option maxRecDepth 100000 in
theorem w_M_readDefinition_455 (C : CB p s m args c meth b_M_readDefinition "TwoLevelParserModel" 4 none D cA z ac) (n : Nat) {S' : HS} (y0 : Int32) {S : HS} {H : Heap} {locs : List Loc} {ls : Array Slot} (h : f_M_readDefinition_b455 n y0 S = some S') (hW : HW D cA z ac E1 ad S H) (hS : va_S (zA z) s.heap H locs) (hl : lv_has ls 4 [(0, .ref (ad 200))]) : GW p l e 11 s m args below meth c D cA z ac E1 ad none S' H locs (F0 m 455 ls [.int (y0), .ref (ad 200)]) := by
  obtain ⟨⟨hx, hb, hml, hown, hts⟩, hK, hr, hlo⟩ := id C
  unfold f_M_readDefinition_b455 at h
  obtain ⟨r52, S51, eS51, h⟩ := ob2_some h
  refine hx_V (i := 200) (As := [.int (y0)]) (rest := []) C hW hS (s_M_must y0 eS51) km_M_213 kv_M_must ke_M_must kn_M kw_M_must kd_M_must (hW.fx 200 rfl) rfl q_M rfl ⟨by decide, by decide⟩ ⟨Nat.zero_le _, Nat.zero_le _⟩ rfl hl.1 rfl (Nat.le_of_ble_eq_true rfl) d_M_readDefinition_455 (fun H locs hW hS => ?_)
  refine lv_pop hx hb d_M_readDefinition_458 rfl ?_
  exact w_M_readDefinition_459 C n h hW hS (lv_sub hl [0] rfl)
set_option maxHeartbeats 4000000 in
set_option maxRecDepth 100000 in
theorem w_M_readDefinition_430 (C : CB p s m args c meth b_M_readDefinition "TwoLevelParserModel" 4 none D cA z ac) (n : Nat) {S' : HS} {S : HS} {H : Heap} {locs : List Loc} {ls : Array Slot} (h : f_M_readDefinition_b430 n S = some S') (hW : HW D cA z ac E1 ad S H) (hS : va_S (zA z) s.heap H locs) (hl : lv_has ls 4 [(0, .ref (ad 200))]) : GW p l e 11 s m args below meth c D cA z ac E1 ad none S' H locs (F0 m 430 ls []) := by
  obtain ⟨⟨hx, hb, hml, hown, hts⟩, hK, hr, hlo⟩ := id C
  unfold f_M_readDefinition_b430 at h
  refine lv_aload_n hx hb d_M_readDefinition_430 rfl (lv_at hl 0 rfl) ?_
  refine hg_i C hW 200 3 (hW.fx 200 rfl) rfl q_M (by decide) rfl (lkF C kf_M_83) d_M_readDefinition_431 ?_
  refine lv_if_ne (tgt := 459) hx hb d_M_readDefinition_434 (by decide) (fun c434 => ?_) (fun c434 => ?_)
  · have h := ite_f c434 h
    exact w_M_readDefinition_459 C n h hW hS (lv_sub hl [0] rfl)
  · have h := ite_t c434 h
    refine lv_aload_n hx hb d_M_readDefinition_437 rfl (lv_at hl 0 rfl) ?_
    obtain ⟨S45, eS45, h⟩ := ob_some h
    refine hx_V (i := 200) (As := []) (rest := []) C hW hS (s_M_next n eS45) km_M_232 kv_M_next ke_M_next kn_M kw_M_next kd_M_next (hW.fx 200 rfl) rfl q_M rfl ⟨by decide, by decide⟩ ⟨Nat.zero_le _, Nat.zero_le _⟩ rfl hl.1 rfl (Nat.le_of_ble_eq_true rfl) d_M_readDefinition_438 (fun H locs hW hS => ?_)
    refine lv_aload_n hx hb d_M_readDefinition_441 rfl (lv_at hl 0 rfl) ?_
    refine lv_aload_n hx hb d_M_readDefinition_442 rfl (lv_at hl 0 rfl) ?_
    refine hg_i C hW 200 6 (hW.fx 200 rfl) rfl q_M (by decide) rfl (lkF C kf_M_99) d_M_readDefinition_443 ?_
    refine lv_iconst (v := 1) hx hb d_M_readDefinition_446 (by decide) ?_
    refine lv_icmp_ne (tgt := 454) hx hb d_M_readDefinition_447 (by decide) (fun c447 => ?_) (fun c447 => ?_)
    · have h := ite_f c447 h
      refine lv_iconst (v := 0) hx hb d_M_readDefinition_454 (by decide) ?_
      exact w_M_readDefinition_455 C n (0 : Int32) h hW hS (lv_sub hl [0] rfl)
    · have h := ite_t c447 h
      refine lv_iconst (v := 1) hx hb d_M_readDefinition_450 (by decide) ?_
      refine lv_goto (tgt := 455) hx hb d_M_readDefinition_451 (by decide) ?_
      exact w_M_readDefinition_455 C n (1 : Int32) h hW hS (lv_sub hl [0] rfl)
set_option maxHeartbeats 4000000 in
set_option maxRecDepth 100000 in
theorem w_M_readDefinition_427 (C : CB p s m args c meth b_M_readDefinition "TwoLevelParserModel" 4 none D cA z ac) (n : Nat) {S' : HS} (y0 : Int32) {S : HS} {H : Heap} {locs : List Loc} {ls : Array Slot} (h : f_M_readDefinition_b427 n y0 S = some S') (hW : HW D cA z ac E1 ad S H) (hS : va_S (zA z) s.heap H locs) (hl : lv_has ls 4 [(0, .ref (ad 200))]) : GW p l e 11 s m args below meth c D cA z ac E1 ad none S' H locs (F0 m 427 ls [.int (y0), .ref (ad 200)]) := by
  obtain ⟨⟨hx, hb, hml, hown, hts⟩, hK, hr, hlo⟩ := id C
  unfold f_M_readDefinition_b427 at h
  obtain ⟨S46, eS46, h⟩ := ob_some h
  refine hx_V (i := 200) (As := [.int (y0)]) (rest := []) C hW hS (s_M_expression n y0 eS46) km_M_257 kv_M_expression ke_M_expression kn_M kw_M_expression kd_M_expression (hW.fx 200 rfl) rfl q_M rfl ⟨by decide, by decide⟩ ⟨Nat.zero_le _, Nat.zero_le _⟩ rfl hl.1 rfl (Nat.le_of_ble_eq_true rfl) d_M_readDefinition_427 (fun H locs hW hS => ?_)
  exact w_M_readDefinition_430 C n h hW hS (lv_sub hl [0] rfl)
set_option maxHeartbeats 4000000 in
set_option maxRecDepth 100000 in
theorem w_M_readDefinition_385 (C : CB p s m args c meth b_M_readDefinition "TwoLevelParserModel" 4 none D cA z ac) (n : Nat) {S' : HS} (x1 : Int32) {S : HS} {H : Heap} {locs : List Loc} {ls : Array Slot} (h : f_M_readDefinition_b385 n x1 S = some S') (hW : HW D cA z ac E1 ad S H) (hS : va_S (zA z) s.heap H locs) (hl : lv_has ls 4 [(0, .ref (ad 200)), (1, .int (x1))]) : GW p l e 11 s m args below meth c D cA z ac E1 ad none S' H locs (F0 m 385 ls []) := by
  obtain ⟨⟨hx, hb, hml, hown, hts⟩, hK, hr, hlo⟩ := id C
  unfold f_M_readDefinition_b385 at h
  refine lv_aload_n hx hb d_M_readDefinition_385 rfl (lv_at hl 0 rfl) ?_
  refine hg_r (j := 214) C hW 200 14 (hW.fx 200 rfl) rfl q_M (by decide) rfl (hW.fn (E := E1) (i := 200) (k := 14) rfl) (lkF C kf_M_27) d_M_readDefinition_386 ?_
  refine lv_iload_n hx hb d_M_readDefinition_389 rfl (lv_at hl 1 rfl) ?_
  refine lv_aload_n hx hb d_M_readDefinition_390 rfl (lv_at hl 0 rfl) ?_
  refine hg_i C hW 200 19 (hW.fx 200 rfl) rfl q_M (by decide) rfl (lkF C kf_M_207) d_M_readDefinition_391 ?_
  obtain ⟨g38, h⟩ := gd_some h
  obtain ⟨S39, eS39, h⟩ := lt_some h
  refine hs_i C hW hS 214 (hW.fx 214 rfl) rfl rfl g38 eS39 d_M_readDefinition_394 (fun H locs hW hS => ?_)
  refine lv_aload_n hx hb d_M_readDefinition_395 rfl (lv_at hl 0 rfl) ?_
  refine lv_aload_n hx hb d_M_readDefinition_396 rfl (lv_at hl 0 rfl) ?_
  refine hg_r (j := 213) C hW 200 13 (hW.fx 200 rfl) rfl q_M (by decide) rfl (hW.fn (E := E1) (i := 200) (k := 13) rfl) (lkF C kf_M_24) d_M_readDefinition_397 ?_
  refine lv_iload_n hx hb d_M_readDefinition_400 rfl (lv_at hl 1 rfl) ?_
  obtain ⟨g40, h⟩ := gd_some h
  refine ha_i C hW 213 (hW.fx 213 rfl) rfl rfl g40 d_M_readDefinition_401 ?_
  obtain ⟨S41, eS41, h⟩ := lt_some h
  refine hp_i C hW hS 200 32 (hW.fx 200 rfl) rfl q_M (by decide) rfl rfl rfl (lkF C kf_M_210) eS41 d_M_readDefinition_402 (fun H locs hW hS => ?_)
  refine lv_aload_n hx hb d_M_readDefinition_405 rfl (lv_at hl 0 rfl) ?_
  refine hg_i C hW 200 3 (hW.fx 200 rfl) rfl q_M (by decide) rfl (lkF C kf_M_83) d_M_readDefinition_406 ?_
  refine lv_if_ne (tgt := 430) hx hb d_M_readDefinition_409 (by decide) (fun c409 => ?_) (fun c409 => ?_)
  · have h := ite_f c409 h
    exact w_M_readDefinition_430 C n h hW hS (lv_sub hl [0] rfl)
  · have h := ite_t c409 h
    refine lv_aload_n hx hb d_M_readDefinition_412 rfl (lv_at hl 0 rfl) ?_
    refine lv_aload_n hx hb d_M_readDefinition_413 rfl (lv_at hl 0 rfl) ?_
    refine hg_r (j := 211) C hW 200 11 (hW.fx 200 rfl) rfl q_M (by decide) rfl (hW.fn (E := E1) (i := 200) (k := 11) rfl) (lkF C kf_M_17) d_M_readDefinition_414 ?_
    refine lv_iload_n hx hb d_M_readDefinition_417 rfl (lv_at hl 1 rfl) ?_
    obtain ⟨g42, h⟩ := gd_some h
    refine ha_i C hW 211 (hW.fx 211 rfl) rfl rfl g42 d_M_readDefinition_418 ?_
    refine lv_if_ne (tgt := 426) hx hb d_M_readDefinition_419 (by decide) (fun c419 => ?_) (fun c419 => ?_)
    · have h := ite_f c419 h
      refine lv_iconst (v := 0) hx hb d_M_readDefinition_426 (by decide) ?_
      exact w_M_readDefinition_427 C n (0 : Int32) h hW hS (lv_sub hl [0] rfl)
    · have h := ite_t c419 h
      refine lv_iconst (v := 1) hx hb d_M_readDefinition_422 (by decide) ?_
      refine lv_goto (tgt := 427) hx hb d_M_readDefinition_423 (by decide) ?_
      exact w_M_readDefinition_427 C n (1 : Int32) h hW hS (lv_sub hl [0] rfl)
set_option maxHeartbeats 4000000 in
set_option maxRecDepth 100000 in
theorem w_M_readDefinition_384 (C : CB p s m args c meth b_M_readDefinition "TwoLevelParserModel" 4 none D cA z ac) (n : Nat) {S' : HS} (x1 : Int32) (y0 : Int32) (y1 : Int32) {S : HS} {H : Heap} {locs : List Loc} {ls : Array Slot} (h : f_M_readDefinition_b384 n x1 y0 y1 S = some S') (hW : HW D cA z ac E1 ad S H) (hS : va_S (zA z) s.heap H locs) (hl : lv_has ls 4 [(0, .ref (ad 200)), (1, .int (x1))]) : GW p l e 11 s m args below meth c D cA z ac E1 ad none S' H locs (F0 m 384 ls [.int (y0), .int (y1), .ref (ad 212)]) := by
  obtain ⟨⟨hx, hb, hml, hown, hts⟩, hK, hr, hlo⟩ := id C
  unfold f_M_readDefinition_b384 at h
  obtain ⟨g53, h⟩ := gd_some h
  obtain ⟨S54, eS54, h⟩ := lt_some h
  refine hs_i C hW hS 212 (hW.fx 212 rfl) rfl rfl g53 eS54 d_M_readDefinition_384 (fun H locs hW hS => ?_)
  exact w_M_readDefinition_385 C n x1 h hW hS (lv_sub hl [0, 1] rfl)
set_option maxHeartbeats 4000000 in
set_option maxRecDepth 100000 in
theorem w_M_readDefinition_360 (C : CB p s m args c meth b_M_readDefinition "TwoLevelParserModel" 4 none D cA z ac) (n : Nat) {S' : HS} (x1 : Int32) (y0 : Int32) {S : HS} {H : Heap} {locs : List Loc} {ls : Array Slot} (h : f_M_readDefinition_b360 n x1 y0 S = some S') (hW : HW D cA z ac E1 ad S H) (hS : va_S (zA z) s.heap H locs) (hl : lv_has ls 4 [(0, .ref (ad 200)), (1, .int (x1))]) : GW p l e 11 s m args below meth c D cA z ac E1 ad none S' H locs (F0 m 360 ls [.int (y0), .ref (ad 200)]) := by
  obtain ⟨⟨hx, hb, hml, hown, hts⟩, hK, hr, hlo⟩ := id C
  unfold f_M_readDefinition_b360 at h
  obtain ⟨r48, S47, eS47, h⟩ := ob2_some h
  refine hx_V (i := 200) (As := [.int (y0)]) (rest := []) C hW hS (s_M_must y0 eS47) km_M_213 kv_M_must ke_M_must kn_M kw_M_must kd_M_must (hW.fx 200 rfl) rfl q_M rfl ⟨by decide, by decide⟩ ⟨Nat.zero_le _, Nat.zero_le _⟩ rfl hl.1 rfl (Nat.le_of_ble_eq_true rfl) d_M_readDefinition_360 (fun H locs hW hS => ?_)
  refine lv_pop hx hb d_M_readDefinition_363 rfl ?_
  refine lv_aload_n hx hb d_M_readDefinition_364 rfl (lv_at hl 0 rfl) ?_
  refine hg_r (j := 212) C hW 200 12 (hW.fx 200 rfl) rfl q_M (by decide) rfl (hW.fn (E := E1) (i := 200) (k := 12) rfl) (lkF C kf_M_21) d_M_readDefinition_365 ?_
  refine lv_iload_n hx hb d_M_readDefinition_368 rfl (lv_at hl 1 rfl) ?_
  refine lv_aload_n hx hb d_M_readDefinition_369 rfl (lv_at hl 0 rfl) ?_
  refine hg_i C hW 200 3 (hW.fx 200 rfl) rfl q_M (by decide) rfl (lkF C kf_M_83) d_M_readDefinition_370 ?_
  refine lv_if_le (tgt := 380) hx hb d_M_readDefinition_373 (by decide) (fun c373 => ?_) (fun c373 => ?_)
  · have h := ite_t c373 h
    refine lv_aload_n hx hb d_M_readDefinition_380 rfl (lv_at hl 0 rfl) ?_
    obtain ⟨r49, er49, h⟩ := ob_some h
    refine hx_V (i := 200) (As := []) (rest := [.int (x1), .ref (ad 212)]) C hW hS (s_M_type n er49) km_M_189 kv_M_type ke_M_type kn_M kw_M_type kd_M_type (hW.fx 200 rfl) rfl q_M rfl ⟨by decide, by decide⟩ ⟨Nat.zero_le _, Nat.zero_le _⟩ rfl hl.1 rfl (Nat.le_of_ble_eq_true rfl) d_M_readDefinition_381 (fun H locs hW hS => ?_)
    exact w_M_readDefinition_384 C n x1 r49 x1 h hW hS (lv_sub hl [0, 1] rfl)
  · have h := ite_f c373 h
    refine lv_iconst (v := 0) hx hb d_M_readDefinition_376 (by decide) ?_
    refine lv_goto (tgt := 384) hx hb d_M_readDefinition_377 (by decide) ?_
    exact w_M_readDefinition_384 C n x1 (0 : Int32) x1 h hW hS (lv_sub hl [0, 1] rfl)
set_option maxHeartbeats 4000000 in
set_option maxRecDepth 100000 in
theorem w_M_readDefinition_355 (C : CB p s m args c meth b_M_readDefinition "TwoLevelParserModel" 4 none D cA z ac) (n : Nat) {S' : HS} (x1 : Int32) {S : HS} {H : Heap} {locs : List Loc} {ls : Array Slot} (h : f_M_readDefinition_b355 n x1 S = some S') (hW : HW D cA z ac E1 ad S H) (hS : va_S (zA z) s.heap H locs) (hl : lv_has ls 4 [(0, .ref (ad 200)), (1, .int (x1))]) : GW p l e 11 s m args below meth c D cA z ac E1 ad none S' H locs (F0 m 355 ls [.ref (ad 200)]) := by
  obtain ⟨⟨hx, hb, hml, hown, hts⟩, hK, hr, hlo⟩ := id C
  unfold f_M_readDefinition_b355 at h
  refine lv_iconst (v := 1) hx hb d_M_readDefinition_355 (by decide) ?_
  refine lv_goto (tgt := 360) hx hb d_M_readDefinition_356 (by decide) ?_
  exact w_M_readDefinition_360 C n x1 (1 : Int32) h hW hS (lv_sub hl [0, 1] rfl)
set_option maxHeartbeats 4000000 in
set_option maxRecDepth 100000 in
theorem w_M_readDefinition_359 (C : CB p s m args c meth b_M_readDefinition "TwoLevelParserModel" 4 none D cA z ac) (n : Nat) {S' : HS} (x1 : Int32) {S : HS} {H : Heap} {locs : List Loc} {ls : Array Slot} (h : f_M_readDefinition_b359 n x1 S = some S') (hW : HW D cA z ac E1 ad S H) (hS : va_S (zA z) s.heap H locs) (hl : lv_has ls 4 [(0, .ref (ad 200)), (1, .int (x1))]) : GW p l e 11 s m args below meth c D cA z ac E1 ad none S' H locs (F0 m 359 ls [.ref (ad 200)]) := by
  obtain ⟨⟨hx, hb, hml, hown, hts⟩, hK, hr, hlo⟩ := id C
  unfold f_M_readDefinition_b359 at h
  refine lv_iconst (v := 0) hx hb d_M_readDefinition_359 (by decide) ?_
  exact w_M_readDefinition_360 C n x1 (0 : Int32) h hW hS (lv_sub hl [0, 1] rfl)
set_option maxHeartbeats 4000000 in
set_option maxRecDepth 100000 in
theorem w_M_readDefinition_312 (C : CB p s m args c meth b_M_readDefinition "TwoLevelParserModel" 4 none D cA z ac) (n : Nat) {S' : HS} (x1 : Int32) {S : HS} {H : Heap} {locs : List Loc} {ls : Array Slot} (h : f_M_readDefinition_b312 n x1 S = some S') (hW : HW D cA z ac E1 ad S H) (hS : va_S (zA z) s.heap H locs) (hl : lv_has ls 4 [(0, .ref (ad 200)), (1, .int (x1))]) : GW p l e 11 s m args below meth c D cA z ac E1 ad none S' H locs (F0 m 312 ls []) := by
  obtain ⟨⟨hx, hb, hml, hown, hts⟩, hK, hr, hlo⟩ := id C
  unfold f_M_readDefinition_b312 at h
  refine lv_aload_n hx hb d_M_readDefinition_312 rfl (lv_at hl 0 rfl) ?_
  refine hg_i C hW 200 3 (hW.fx 200 rfl) rfl q_M (by decide) rfl (lkF C kf_M_83) d_M_readDefinition_313 ?_
  refine lv_if_ne (tgt := 385) hx hb d_M_readDefinition_316 (by decide) (fun c316 => ?_) (fun c316 => ?_)
  · have h := ite_f c316 h
    exact w_M_readDefinition_385 C n x1 h hW hS (lv_sub hl [0, 1] rfl)
  · have h := ite_t c316 h
    refine lv_aload_n hx hb d_M_readDefinition_319 rfl (lv_at hl 0 rfl) ?_
    obtain ⟨S32, eS32, h⟩ := ob_some h
    refine hx_V (i := 200) (As := []) (rest := []) C hW hS (s_M_next n eS32) km_M_232 kv_M_next ke_M_next kn_M kw_M_next kd_M_next (hW.fx 200 rfl) rfl q_M rfl ⟨by decide, by decide⟩ ⟨Nat.zero_le _, Nat.zero_le _⟩ rfl hl.1 rfl (Nat.le_of_ble_eq_true rfl) d_M_readDefinition_320 (fun H locs hW hS => ?_)
    refine lv_aload_n hx hb d_M_readDefinition_323 rfl (lv_at hl 0 rfl) ?_
    refine lv_aload_n hx hb d_M_readDefinition_324 rfl (lv_at hl 0 rfl) ?_
    refine hg_i C hW 200 3 (hW.fx 200 rfl) rfl q_M (by decide) rfl (lkF C kf_M_83) d_M_readDefinition_325 ?_
    refine lv_if_gt (tgt := 355) hx hb d_M_readDefinition_328 (by decide) (fun c328 => ?_) (fun c328 => ?_)
    · have h := ite_t c328 h
      exact w_M_readDefinition_355 C n x1 h hW hS (lv_sub hl [0, 1] rfl)
    · have h := ite_f c328 h
      refine lv_aload_n hx hb d_M_readDefinition_331 rfl (lv_at hl 0 rfl) ?_
      obtain ⟨r33, er33, h⟩ := ob_some h
      refine hx_V (i := 200) (As := []) (rest := [.ref (ad 200)]) C hW hS (s_M_type n er33) km_M_189 kv_M_type ke_M_type kn_M kw_M_type kd_M_type (hW.fx 200 rfl) rfl q_M rfl ⟨by decide, by decide⟩ ⟨Nat.zero_le _, Nat.zero_le _⟩ rfl hl.1 rfl (Nat.le_of_ble_eq_true rfl) d_M_readDefinition_332 (fun H locs hW hS => ?_)
      refine lv_if_lt (tgt := 359) hx hb d_M_readDefinition_335 (by decide) (fun c335 => ?_) (fun c335 => ?_)
      · have h := ite_t c335 h
        exact w_M_readDefinition_359 C n x1 h hW hS (lv_sub hl [0, 1] rfl)
      · have h := ite_f c335 h
        refine lv_aload_n hx hb d_M_readDefinition_338 rfl (lv_at hl 0 rfl) ?_
        refine hg_r (j := 211) C hW 200 11 (hW.fx 200 rfl) rfl q_M (by decide) rfl (hW.fn (E := E1) (i := 200) (k := 11) rfl) (lkF C kf_M_17) d_M_readDefinition_339 ?_
        refine lv_iload_n hx hb d_M_readDefinition_342 rfl (lv_at hl 1 rfl) ?_
        obtain ⟨g34, h⟩ := gd_some h
        refine ha_i C hW 211 (hW.fx 211 rfl) rfl rfl g34 d_M_readDefinition_343 ?_
        refine lv_if_eq (tgt := 355) hx hb d_M_readDefinition_344 (by decide) (fun c344 => ?_) (fun c344 => ?_)
        · have h := ite_t c344 h
          exact w_M_readDefinition_355 C n x1 h hW hS (lv_sub hl [0, 1] rfl)
        · have h := ite_f c344 h
          refine lv_aload_n hx hb d_M_readDefinition_347 rfl (lv_at hl 0 rfl) ?_
          obtain ⟨r35, er35, h⟩ := ob_some h
          refine hx_V (i := 200) (As := []) (rest := [.ref (ad 200)]) C hW hS (s_M_type n er35) km_M_189 kv_M_type ke_M_type kn_M kw_M_type kd_M_type (hW.fx 200 rfl) rfl q_M rfl ⟨by decide, by decide⟩ ⟨Nat.zero_le _, Nat.zero_le _⟩ rfl hl.1 rfl (Nat.le_of_ble_eq_true rfl) d_M_readDefinition_348 (fun H locs hW hS => ?_)
          refine lv_iconst (v := 2) hx hb d_M_readDefinition_351 (by decide) ?_
          refine lv_icmp_ge (tgt := 359) hx hb d_M_readDefinition_352 (by decide) (fun c352 => ?_) (fun c352 => ?_)
          · have h := ite_t c352 h
            exact w_M_readDefinition_359 C n x1 h hW hS (lv_sub hl [0, 1] rfl)
          · have h := ite_f c352 h
            exact w_M_readDefinition_355 C n x1 h hW hS (lv_sub hl [0, 1] rfl)
set_option maxHeartbeats 4000000 in
set_option maxRecDepth 100000 in
theorem w_M_readDefinition_240B (C : CB p s m args c meth b_M_readDefinition "TwoLevelParserModel" 4 none D cA z ac) (n : Nat) (kc : Int32 → Int32 → HS → Option HS) {S' : HS} (hk : ∀ (x1 : Int32) (x3 : Int32) (S : HS) {H : Heap} {locs : List Loc} {ls : Array Slot}, kc x1 x3 S = some S' → HW D cA z ac E1 ad S H → va_S (zA z) s.heap H locs → lv_has ls 4 [(0, .ref (ad 200)), (1, .int (x1)), (3, .int (x3))] → GW p l e 11 s m args below meth c D cA z ac E1 ad none S' H locs (F0 m 240 ls [])) (x1 : Int32) (x3 : Int32) {S : HS} {H : Heap} {locs : List Loc} {ls : Array Slot} (h : f_M_readDefinition_b240B n kc x1 x3 S = some S') (hW : HW D cA z ac E1 ad S H) (hS : va_S (zA z) s.heap H locs) (hl : lv_has ls 4 [(0, .ref (ad 200)), (1, .int (x1)), (3, .int (x3))]) : GW p l e 11 s m args below meth c D cA z ac E1 ad none S' H locs (F0 m 240 ls []) := by
  obtain ⟨⟨hx, hb, hml, hown, hts⟩, hK, hr, hlo⟩ := id C
  unfold f_M_readDefinition_b240B at h
  refine lv_iload_n hx hb d_M_readDefinition_240 rfl (lv_at hl 2 rfl) ?_
  refine lv_if_eq (tgt := 312) hx hb d_M_readDefinition_241 (by decide) (fun c241 => ?_) (fun c241 => ?_)
  · have h := ite_t c241 h
    exact w_M_readDefinition_312 C n x1 h hW hS (lv_sub hl [0, 1] rfl)
  · have h := ite_f c241 h
    refine lv_aload_n hx hb d_M_readDefinition_244 rfl (lv_at hl 0 rfl) ?_
    refine hg_i C hW 200 3 (hW.fx 200 rfl) rfl q_M (by decide) rfl (lkF C kf_M_83) d_M_readDefinition_245 ?_
    refine lv_if_ne (tgt := 312) hx hb d_M_readDefinition_248 (by decide) (fun c248 => ?_) (fun c248 => ?_)
    · have h := ite_f c248 h
      exact w_M_readDefinition_312 C n x1 h hW hS (lv_sub hl [0, 1] rfl)
    · have h := ite_t c248 h
      refine lv_aload_n hx hb d_M_readDefinition_251 rfl (lv_at hl 0 rfl) ?_
      obtain ⟨S31, eS31, h⟩ := ob_some h
      refine hx_V (i := 200) (As := []) (rest := []) C hW hS (s_M_next n eS31) km_M_232 kv_M_next ke_M_next kn_M kw_M_next kd_M_next (hW.fx 200 rfl) rfl q_M rfl ⟨by decide, by decide⟩ ⟨Nat.zero_le _, Nat.zero_le _⟩ rfl hl.1 rfl (Nat.le_of_ble_eq_true rfl) d_M_readDefinition_252 (fun H locs hW hS => ?_)
      refine lv_aload_n hx hb d_M_readDefinition_255 rfl (lv_at hl 0 rfl) ?_
      refine lv_aload_n hx hb d_M_readDefinition_256 rfl (lv_at hl 0 rfl) ?_
      refine hg_i C hW 200 6 (hW.fx 200 rfl) rfl q_M (by decide) rfl (lkF C kf_M_99) d_M_readDefinition_257 ?_
      refine lv_if_eq (tgt := 271) hx hb d_M_readDefinition_260 (by decide) (fun c260 => ?_) (fun c260 => ?_)
      · have h := ite_t c260 h
        exact w_M_readDefinition_271 C n kc hk x1 h hW hS (lv_sub hl [0, 1] rfl)
      · have h := ite_f c260 h
        refine lv_aload_n hx hb d_M_readDefinition_263 rfl (lv_at hl 0 rfl) ?_
        refine hg_i C hW 200 6 (hW.fx 200 rfl) rfl q_M (by decide) rfl (lkF C kf_M_99) d_M_readDefinition_264 ?_
        refine lv_iconst (v := 1) hx hb d_M_readDefinition_267 (by decide) ?_
        refine lv_icmp_ne (tgt := 275) hx hb d_M_readDefinition_268 (by decide) (fun c268 => ?_) (fun c268 => ?_)
        · have h := ite_f c268 h
          refine lv_iconst (v := 0) hx hb d_M_readDefinition_275 (by decide) ?_
          exact w_M_readDefinition_276 C n kc hk x1 (0 : Int32) h hW hS (lv_sub hl [0, 1] rfl)
        · have h := ite_t c268 h
          exact w_M_readDefinition_271 C n kc hk x1 h hW hS (lv_sub hl [0, 1] rfl)
set_option maxHeartbeats 4000000 in
set_option maxRecDepth 100000 in
theorem w_M_readDefinition_240 (C : CB p s m args c meth b_M_readDefinition "TwoLevelParserModel" 4 none D cA z ac) (n : Nat) (k : Nat) {S' : HS} : ∀ (x1 : Int32) (x3 : Int32) {S : HS} {H : Heap} {locs : List Loc} {ls : Array Slot}, f_M_readDefinition_b240 n k x1 x3 S = some S' → HW D cA z ac E1 ad S H → va_S (zA z) s.heap H locs → lv_has ls 4 [(0, .ref (ad 200)), (1, .int (x1)), (3, .int (x3))] → GW p l e 11 s m args below meth c D cA z ac E1 ad none S' H locs (F0 m 240 ls []) := by
  induction k with
  | zero => intro x1 x3 S H locs ls h; cases h
  | succ k ih => intro x1 x3 S H locs ls h hW hS hl; exact w_M_readDefinition_240B C n (f_M_readDefinition_b240 n k) (fun x1 x3 S H locs ls h hW hS hl => ih x1 x3 h hW hS hl) x1 x3 h hW hS hl
set_option maxHeartbeats 4000000 in
set_option maxRecDepth 100000 in
theorem w_M_readDefinition_238 (C : CB p s m args c meth b_M_readDefinition "TwoLevelParserModel" 4 none D cA z ac) (n : Nat) {S' : HS} (x1 : Int32) {S : HS} {H : Heap} {locs : List Loc} {ls : Array Slot} (h : f_M_readDefinition_b238 n x1 S = some S') (hW : HW D cA z ac E1 ad S H) (hS : va_S (zA z) s.heap H locs) (hl : lv_has ls 4 [(0, .ref (ad 200)), (1, .int (x1))]) : GW p l e 11 s m args below meth c D cA z ac E1 ad none S' H locs (F0 m 238 ls []) := by
  obtain ⟨⟨hx, hb, hml, hown, hts⟩, hK, hr, hlo⟩ := id C
  unfold f_M_readDefinition_b238 at h
  refine lv_iconst (v := 1) hx hb d_M_readDefinition_238 (by decide) ?_
  obtain ⟨v28, ev28, h⟩ := lt_some h
  refine lt_i_n (lv' := [(3, .int (v28)), (0, .ref (ad 200)), (1, .int (x1))]) C d_M_readDefinition_239 rfl hl (by decide) ev28 rfl (fun ls hl => ?_)
  exact w_M_readDefinition_240 C n n x1 v28 h hW hS (lv_sub hl [1, 2, 0] rfl)
set_option maxHeartbeats 4000000 in
set_option maxRecDepth 100000 in
theorem w_M_readDefinition_234 (C : CB p s m args c meth b_M_readDefinition "TwoLevelParserModel" 4 none D cA z ac) (n : Nat) {S' : HS} (x1 : Int32) (y0 : Int32) {S : HS} {H : Heap} {locs : List Loc} {ls : Array Slot} (h : f_M_readDefinition_b234 n x1 y0 S = some S') (hW : HW D cA z ac E1 ad S H) (hS : va_S (zA z) s.heap H locs) (hl : lv_has ls 4 [(0, .ref (ad 200)), (1, .int (x1))]) : GW p l e 11 s m args below meth c D cA z ac E1 ad none S' H locs (F0 m 234 ls [.int (y0), .ref (ad 200)]) := by
  obtain ⟨⟨hx, hb, hml, hown, hts⟩, hK, hr, hlo⟩ := id C
  unfold f_M_readDefinition_b234 at h
  obtain ⟨r30, S29, eS29, h⟩ := ob2_some h
  refine hx_V (i := 200) (As := [.int (y0)]) (rest := []) C hW hS (s_M_must y0 eS29) km_M_213 kv_M_must ke_M_must kn_M kw_M_must kd_M_must (hW.fx 200 rfl) rfl q_M rfl ⟨by decide, by decide⟩ ⟨Nat.zero_le _, Nat.zero_le _⟩ rfl hl.1 rfl (Nat.le_of_ble_eq_true rfl) d_M_readDefinition_234 (fun H locs hW hS => ?_)
  refine lv_pop hx hb d_M_readDefinition_237 rfl ?_
  exact w_M_readDefinition_238 C n x1 h hW hS (lv_sub hl [0, 1] rfl)
set_option maxHeartbeats 4000000 in
set_option maxRecDepth 100000 in
theorem w_M_readDefinition_179 (C : CB p s m args c meth b_M_readDefinition "TwoLevelParserModel" 4 none D cA z ac) (n : Nat) {S' : HS} (x1 : Int32) (y0 : Int32) {S : HS} {H : Heap} {locs : List Loc} {ls : Array Slot} (h : f_M_readDefinition_b179 n x1 y0 S = some S') (hW : HW D cA z ac E1 ad S H) (hS : va_S (zA z) s.heap H locs) (hl : lv_has ls 4 [(0, .ref (ad 200)), (1, .int (x1))]) : GW p l e 11 s m args below meth c D cA z ac E1 ad none S' H locs (F0 m 179 ls [.int (y0), .ref (ad 200)]) := by
  obtain ⟨⟨hx, hb, hml, hown, hts⟩, hK, hr, hlo⟩ := id C
  unfold f_M_readDefinition_b179 at h
  obtain ⟨r20, S19, eS19, h⟩ := ob2_some h
  refine hx_V (i := 200) (As := [.int (y0)]) (rest := []) C hW hS (s_M_must y0 eS19) km_M_213 kv_M_must ke_M_must kn_M kw_M_must kd_M_must (hW.fx 200 rfl) rfl q_M rfl ⟨by decide, by decide⟩ ⟨Nat.zero_le _, Nat.zero_le _⟩ rfl hl.1 rfl (Nat.le_of_ble_eq_true rfl) d_M_readDefinition_179 (fun H locs hW hS => ?_)
  refine lv_pop hx hb d_M_readDefinition_182 rfl ?_
  refine lv_aload_n hx hb d_M_readDefinition_183 rfl (lv_at hl 0 rfl) ?_
  refine hg_r (j := 216) C hW 200 16 (hW.fx 200 rfl) rfl q_M (by decide) rfl (hW.fn (E := E1) (i := 200) (k := 16) rfl) (lkF C kf_M_33) d_M_readDefinition_184 ?_
  refine lv_iload_n hx hb d_M_readDefinition_187 rfl (lv_at hl 1 rfl) ?_
  refine lv_aload_n hx hb d_M_readDefinition_188 rfl (lv_at hl 0 rfl) ?_
  refine hg_l C hW 200 8 (hW.fx 200 rfl) rfl q_M (by decide) rfl (lkF C kf_M_115) d_M_readDefinition_189 ?_
  obtain ⟨g21, h⟩ := gd_some h
  obtain ⟨S22, eS22, h⟩ := lt_some h
  refine hs_l C hW hS 216 (hW.fx 216 rfl) rfl rfl g21 eS22 d_M_readDefinition_192 (fun H locs hW hS => ?_)
  refine lv_aload_n hx hb d_M_readDefinition_193 rfl (lv_at hl 0 rfl) ?_
  refine hg_r (j := 215) C hW 200 15 (hW.fx 200 rfl) rfl q_M (by decide) rfl (hW.fn (E := E1) (i := 200) (k := 15) rfl) (lkF C kf_M_30) d_M_readDefinition_194 ?_
  refine lv_iload_n hx hb d_M_readDefinition_197 rfl (lv_at hl 1 rfl) ?_
  refine lv_aload_n hx hb d_M_readDefinition_198 rfl (lv_at hl 0 rfl) ?_
  refine hg_i C hW 200 7 (hW.fx 200 rfl) rfl q_M (by decide) rfl (lkF C kf_M_96) d_M_readDefinition_199 ?_
  obtain ⟨g23, h⟩ := gd_some h
  obtain ⟨S24, eS24, h⟩ := lt_some h
  refine hs_i C hW hS 215 (hW.fx 215 rfl) rfl rfl g23 eS24 d_M_readDefinition_202 (fun H locs hW hS => ?_)
  refine lv_aload_n hx hb d_M_readDefinition_203 rfl (lv_at hl 0 rfl) ?_
  refine hg_r (j := 213) C hW 200 13 (hW.fx 200 rfl) rfl q_M (by decide) rfl (hW.fn (E := E1) (i := 200) (k := 13) rfl) (lkF C kf_M_24) d_M_readDefinition_204 ?_
  refine lv_iload_n hx hb d_M_readDefinition_207 rfl (lv_at hl 1 rfl) ?_
  refine lv_iconst (v := 0) hx hb d_M_readDefinition_208 (by decide) ?_
  obtain ⟨g25, h⟩ := gd_some h
  obtain ⟨S26, eS26, h⟩ := lt_some h
  refine hs_i C hW hS 213 (hW.fx 213 rfl) rfl rfl g25 eS26 d_M_readDefinition_209 (fun H locs hW hS => ?_)
  refine lv_aload_n hx hb d_M_readDefinition_210 rfl (lv_at hl 0 rfl) ?_
  refine hg_i C hW 200 3 (hW.fx 200 rfl) rfl q_M (by decide) rfl (lkF C kf_M_83) d_M_readDefinition_211 ?_
  refine lv_if_ne (tgt := 238) hx hb d_M_readDefinition_214 (by decide) (fun c214 => ?_) (fun c214 => ?_)
  · have h := ite_f c214 h
    exact w_M_readDefinition_238 C n x1 h hW hS (lv_sub hl [0, 1] rfl)
  · have h := ite_t c214 h
    refine lv_aload_n hx hb d_M_readDefinition_217 rfl (lv_at hl 0 rfl) ?_
    obtain ⟨S27, eS27, h⟩ := ob_some h
    refine hx_V (i := 200) (As := []) (rest := []) C hW hS (s_M_next n eS27) km_M_232 kv_M_next ke_M_next kn_M kw_M_next kd_M_next (hW.fx 200 rfl) rfl q_M rfl ⟨by decide, by decide⟩ ⟨Nat.zero_le _, Nat.zero_le _⟩ rfl hl.1 rfl (Nat.le_of_ble_eq_true rfl) d_M_readDefinition_218 (fun H locs hW hS => ?_)
    refine lv_aload_n hx hb d_M_readDefinition_221 rfl (lv_at hl 0 rfl) ?_
    refine lv_aload_n hx hb d_M_readDefinition_222 rfl (lv_at hl 0 rfl) ?_
    refine hg_i C hW 200 6 (hW.fx 200 rfl) rfl q_M (by decide) rfl (lkF C kf_M_99) d_M_readDefinition_223 ?_
    refine lv_if_ne (tgt := 233) hx hb d_M_readDefinition_226 (by decide) (fun c226 => ?_) (fun c226 => ?_)
    · have h := ite_f c226 h
      refine lv_iconst (v := 0) hx hb d_M_readDefinition_233 (by decide) ?_
      exact w_M_readDefinition_234 C n x1 (0 : Int32) h hW hS (lv_sub hl [0, 1] rfl)
    · have h := ite_t c226 h
      refine lv_iconst (v := 1) hx hb d_M_readDefinition_229 (by decide) ?_
      refine lv_goto (tgt := 234) hx hb d_M_readDefinition_230 (by decide) ?_
      exact w_M_readDefinition_234 C n x1 (1 : Int32) h hW hS (lv_sub hl [0, 1] rfl)
set_option maxHeartbeats 4000000 in
set_option maxRecDepth 100000 in
theorem w_M_readDefinition_174 (C : CB p s m args c meth b_M_readDefinition "TwoLevelParserModel" 4 none D cA z ac) (n : Nat) {S' : HS} (x1 : Int32) {S : HS} {H : Heap} {locs : List Loc} {ls : Array Slot} (h : f_M_readDefinition_b174 n x1 S = some S') (hW : HW D cA z ac E1 ad S H) (hS : va_S (zA z) s.heap H locs) (hl : lv_has ls 4 [(0, .ref (ad 200)), (1, .int (x1))]) : GW p l e 11 s m args below meth c D cA z ac E1 ad none S' H locs (F0 m 174 ls [.ref (ad 200)]) := by
  obtain ⟨⟨hx, hb, hml, hown, hts⟩, hK, hr, hlo⟩ := id C
  unfold f_M_readDefinition_b174 at h
  refine lv_iconst (v := 1) hx hb d_M_readDefinition_174 (by decide) ?_
  refine lv_goto (tgt := 179) hx hb d_M_readDefinition_175 (by decide) ?_
  exact w_M_readDefinition_179 C n x1 (1 : Int32) h hW hS (lv_sub hl [0, 1] rfl)
set_option maxHeartbeats 4000000 in
set_option maxRecDepth 100000 in
theorem w_M_readDefinition_178 (C : CB p s m args c meth b_M_readDefinition "TwoLevelParserModel" 4 none D cA z ac) (n : Nat) {S' : HS} (x1 : Int32) {S : HS} {H : Heap} {locs : List Loc} {ls : Array Slot} (h : f_M_readDefinition_b178 n x1 S = some S') (hW : HW D cA z ac E1 ad S H) (hS : va_S (zA z) s.heap H locs) (hl : lv_has ls 4 [(0, .ref (ad 200)), (1, .int (x1))]) : GW p l e 11 s m args below meth c D cA z ac E1 ad none S' H locs (F0 m 178 ls [.ref (ad 200)]) := by
  obtain ⟨⟨hx, hb, hml, hown, hts⟩, hK, hr, hlo⟩ := id C
  unfold f_M_readDefinition_b178 at h
  refine lv_iconst (v := 0) hx hb d_M_readDefinition_178 (by decide) ?_
  exact w_M_readDefinition_179 C n x1 (0 : Int32) h hW hS (lv_sub hl [0, 1] rfl)
set_option maxHeartbeats 4000000 in
set_option maxRecDepth 100000 in
theorem w_M_readDefinition_120B (C : CB p s m args c meth b_M_readDefinition "TwoLevelParserModel" 4 none D cA z ac) (n : Nat) (kc : Int32 → Int32 → Int32 → HS → Option HS) {S' : HS} (hk : ∀ (x1 : Int32) (x2 : Int32) (x3 : Int32) (S : HS) {H : Heap} {locs : List Loc} {ls : Array Slot}, kc x1 x2 x3 S = some S' → HW D cA z ac E1 ad S H → va_S (zA z) s.heap H locs → lv_has ls 4 [(0, .ref (ad 200)), (1, .int (x1)), (2, .int (x2)), (3, .int (x3))] → GW p l e 11 s m args below meth c D cA z ac E1 ad none S' H locs (F0 m 120 ls [])) (x1 : Int32) (x2 : Int32) (x3 : Int32) {S : HS} {H : Heap} {locs : List Loc} {ls : Array Slot} (h : f_M_readDefinition_b120B n kc x1 x2 x3 S = some S') (hW : HW D cA z ac E1 ad S H) (hS : va_S (zA z) s.heap H locs) (hl : lv_has ls 4 [(0, .ref (ad 200)), (1, .int (x1)), (2, .int (x2)), (3, .int (x3))]) : GW p l e 11 s m args below meth c D cA z ac E1 ad none S' H locs (F0 m 120 ls []) := by
  obtain ⟨⟨hx, hb, hml, hown, hts⟩, hK, hr, hlo⟩ := id C
  unfold f_M_readDefinition_b120B at h
  refine lv_iload_n hx hb d_M_readDefinition_120 rfl (lv_at hl 3 rfl) ?_
  refine lv_iload_n hx hb d_M_readDefinition_121 rfl (lv_at hl 1 rfl) ?_
  refine lv_icmp_ge (tgt := 155) hx hb d_M_readDefinition_122 (by decide) (fun c122 => ?_) (fun c122 => ?_)
  · have h := ite_t c122 h
    refine lv_aload_n hx hb d_M_readDefinition_155 rfl (lv_at hl 0 rfl) ?_
    refine lv_aload_n hx hb d_M_readDefinition_156 rfl (lv_at hl 0 rfl) ?_
    refine hg_i C hW 200 3 (hW.fx 200 rfl) rfl q_M (by decide) rfl (lkF C kf_M_83) d_M_readDefinition_157 ?_
    refine lv_if_gt (tgt := 174) hx hb d_M_readDefinition_160 (by decide) (fun c160 => ?_) (fun c160 => ?_)
    · have h := ite_t c160 h
      exact w_M_readDefinition_174 C n x1 h hW hS (lv_sub hl [0, 1] rfl)
    · have h := ite_f c160 h
      refine lv_aload_n hx hb d_M_readDefinition_163 rfl (lv_at hl 0 rfl) ?_
      obtain ⟨r15, er15, h⟩ := ob_some h
      refine hx_V (i := 200) (As := []) (rest := [.ref (ad 200)]) C hW hS (s_M_isOwn n er15) km_M_224 kv_M_isOwn ke_M_isOwn kn_M kw_M_isOwn kd_M_isOwn (hW.fx 200 rfl) rfl q_M rfl ⟨by decide, by decide⟩ ⟨Nat.zero_le _, Nat.zero_le _⟩ rfl hl.1 rfl (Nat.le_of_ble_eq_true rfl) d_M_readDefinition_164 (fun H locs hW hS => ?_)
      refine lv_if_eq (tgt := 178) hx hb d_M_readDefinition_167 (by decide) (fun c167 => ?_) (fun c167 => ?_)
      · have h := ite_t c167 h
        exact w_M_readDefinition_178 C n x1 h hW hS (lv_sub hl [0, 1] rfl)
      · have h := ite_f c167 h
        refine lv_iload_n hx hb d_M_readDefinition_170 rfl (lv_at hl 2 rfl) ?_
        refine lv_if_ne (tgt := 178) hx hb d_M_readDefinition_171 (by decide) (fun c171 => ?_) (fun c171 => ?_)
        · have h := ite_f c171 h
          exact w_M_readDefinition_178 C n x1 h hW hS (lv_sub hl [0, 1] rfl)
        · have h := ite_t c171 h
          exact w_M_readDefinition_174 C n x1 h hW hS (lv_sub hl [0, 1] rfl)
  · have h := ite_f c122 h
    refine lv_iload_n hx hb d_M_readDefinition_125 rfl (lv_at hl 2 rfl) ?_
    refine lv_if_ne (tgt := 143) hx hb d_M_readDefinition_126 (by decide) (fun c126 => ?_) (fun c126 => ?_)
    · have h := ite_f c126 h
      exact w_M_readDefinition_143 C n kc hk x1 x3 h hW hS (lv_sub hl [0, 1, 3] rfl)
    · have h := ite_t c126 h
      refine lv_aload_n hx hb d_M_readDefinition_129 rfl (lv_at hl 0 rfl) ?_
      refine hg_r (j := 216) C hW 200 16 (hW.fx 200 rfl) rfl q_M (by decide) rfl (hW.fn (E := E1) (i := 200) (k := 16) rfl) (lkF C kf_M_33) d_M_readDefinition_130 ?_
      refine lv_iload_n hx hb d_M_readDefinition_133 rfl (lv_at hl 3 rfl) ?_
      obtain ⟨g16, h⟩ := gd_some h
      refine ha_l C hW 216 (hW.fx 216 rfl) rfl rfl g16 d_M_readDefinition_134 ?_
      refine lv_aload_n hx hb d_M_readDefinition_135 rfl (lv_at hl 0 rfl) ?_
      refine hg_l C hW 200 8 (hW.fx 200 rfl) rfl q_M (by decide) rfl (lkF C kf_M_115) d_M_readDefinition_136 ?_
      refine W.lcmp hx hb d_M_readDefinition_139 ?_
      refine lv_if_ne (tgt := 147) hx hb d_M_readDefinition_140 (by decide) (fun c140 => ?_) (fun c140 => ?_)
      · have h := ite_f c140 h
        refine lv_iconst (v := 0) hx hb d_M_readDefinition_147 (by decide) ?_
        exact w_M_readDefinition_148 C n kc hk x1 x3 (0 : Int32) h hW hS (lv_sub hl [0, 1, 3] rfl)
      · have h := ite_t c140 h
        exact w_M_readDefinition_143 C n kc hk x1 x3 h hW hS (lv_sub hl [0, 1, 3] rfl)
set_option maxHeartbeats 4000000 in
set_option maxRecDepth 100000 in
theorem w_M_readDefinition_120 (C : CB p s m args c meth b_M_readDefinition "TwoLevelParserModel" 4 none D cA z ac) (n : Nat) (k : Nat) {S' : HS} : ∀ (x1 : Int32) (x2 : Int32) (x3 : Int32) {S : HS} {H : Heap} {locs : List Loc} {ls : Array Slot}, f_M_readDefinition_b120 n k x1 x2 x3 S = some S' → HW D cA z ac E1 ad S H → va_S (zA z) s.heap H locs → lv_has ls 4 [(0, .ref (ad 200)), (1, .int (x1)), (2, .int (x2)), (3, .int (x3))] → GW p l e 11 s m args below meth c D cA z ac E1 ad none S' H locs (F0 m 120 ls []) := by
  induction k with
  | zero => intro x1 x2 x3 S H locs ls h; cases h
  | succ k ih => intro x1 x2 x3 S H locs ls h hW hS hl; exact w_M_readDefinition_120B C n (f_M_readDefinition_b120 n k) (fun x1 x2 x3 S H locs ls h hW hS hl => ih x1 x2 x3 h hW hS hl) x1 x2 x3 h hW hS hl
set_option maxHeartbeats 4000000 in
set_option maxRecDepth 100000 in
theorem w_M_readDefinition_116 (C : CB p s m args c meth b_M_readDefinition "TwoLevelParserModel" 4 none D cA z ac) (n : Nat) {S' : HS} (x1 : Int32) {S : HS} {H : Heap} {locs : List Loc} {ls : Array Slot} (h : f_M_readDefinition_b116 n x1 S = some S') (hW : HW D cA z ac E1 ad S H) (hS : va_S (zA z) s.heap H locs) (hl : lv_has ls 4 [(0, .ref (ad 200)), (1, .int (x1))]) : GW p l e 11 s m args below meth c D cA z ac E1 ad none S' H locs (F0 m 116 ls []) := by
  obtain ⟨⟨hx, hb, hml, hown, hts⟩, hK, hr, hlo⟩ := id C
  unfold f_M_readDefinition_b116 at h
  refine lv_iconst (v := 0) hx hb d_M_readDefinition_116 (by decide) ?_
  obtain ⟨v13, ev13, h⟩ := lt_some h
  refine lt_i_n (lv' := [(2, .int (v13)), (0, .ref (ad 200)), (1, .int (x1))]) C d_M_readDefinition_117 rfl hl (by decide) ev13 rfl (fun ls hl => ?_)
  refine lv_iconst (v := 0) hx hb d_M_readDefinition_118 (by decide) ?_
  obtain ⟨v14, ev14, h⟩ := lt_some h
  refine lt_i_n (lv' := [(3, .int (v14)), (2, .int (v13)), (0, .ref (ad 200)), (1, .int (x1))]) C d_M_readDefinition_119 rfl hl (by decide) ev14 rfl (fun ls hl => ?_)
  exact w_M_readDefinition_120 C n n x1 v13 v14 h hW hS (lv_sub hl [2, 3, 1, 0] rfl)
set_option maxHeartbeats 4000000 in
set_option maxRecDepth 100000 in
theorem w_M_readDefinition_104 (C : CB p s m args c meth b_M_readDefinition "TwoLevelParserModel" 4 none D cA z ac) (n : Nat) {S' : HS} (x1 : Int32) (y0 : Int32) (y1 : Int32) {S : HS} {H : Heap} {locs : List Loc} {ls : Array Slot} (h : f_M_readDefinition_b104 n x1 y0 y1 S = some S') (hW : HW D cA z ac E1 ad S H) (hS : va_S (zA z) s.heap H locs) (hl : lv_has ls 4 [(0, .ref (ad 200)), (1, .int (x1))]) : GW p l e 11 s m args below meth c D cA z ac E1 ad none S' H locs (F0 m 104 ls [.int (y0), .int (y1), .ref (ad 211)]) := by
  obtain ⟨⟨hx, hb, hml, hown, hts⟩, hK, hr, hlo⟩ := id C
  unfold f_M_readDefinition_b104 at h
  obtain ⟨g10, h⟩ := gd_some h
  obtain ⟨S11, eS11, h⟩ := lt_some h
  refine hs_i C hW hS 211 (hW.fx 211 rfl) rfl rfl g10 eS11 d_M_readDefinition_104 (fun H locs hW hS => ?_)
  refine lv_aload_n hx hb d_M_readDefinition_105 rfl (lv_at hl 0 rfl) ?_
  refine hg_i C hW 200 3 (hW.fx 200 rfl) rfl q_M (by decide) rfl (lkF C kf_M_83) d_M_readDefinition_106 ?_
  refine lv_if_ne (tgt := 116) hx hb d_M_readDefinition_109 (by decide) (fun c109 => ?_) (fun c109 => ?_)
  · have h := ite_f c109 h
    exact w_M_readDefinition_116 C n x1 h hW hS (lv_sub hl [0, 1] rfl)
  · have h := ite_t c109 h
    refine lv_aload_n hx hb d_M_readDefinition_112 rfl (lv_at hl 0 rfl) ?_
    obtain ⟨S12, eS12, h⟩ := ob_some h
    refine hx_V (i := 200) (As := []) (rest := []) C hW hS (s_M_next n eS12) km_M_232 kv_M_next ke_M_next kn_M kw_M_next kd_M_next (hW.fx 200 rfl) rfl q_M rfl ⟨by decide, by decide⟩ ⟨Nat.zero_le _, Nat.zero_le _⟩ rfl hl.1 rfl (Nat.le_of_ble_eq_true rfl) d_M_readDefinition_113 (fun H locs hW hS => ?_)
    exact w_M_readDefinition_116 C n x1 h hW hS (lv_sub hl [0, 1] rfl)
set_option maxHeartbeats 4000000 in
set_option maxRecDepth 100000 in
theorem w_M_readDefinition_103 (C : CB p s m args c meth b_M_readDefinition "TwoLevelParserModel" 4 none D cA z ac) (n : Nat) {S' : HS} (x1 : Int32) (y0 : Int32) {S : HS} {H : Heap} {locs : List Loc} {ls : Array Slot} (h : f_M_readDefinition_b103 n x1 y0 S = some S') (hW : HW D cA z ac E1 ad S H) (hS : va_S (zA z) s.heap H locs) (hl : lv_has ls 4 [(0, .ref (ad 200)), (1, .int (x1))]) : GW p l e 11 s m args below meth c D cA z ac E1 ad none S' H locs (F0 m 103 ls [.int (y0), .ref (ad 211)]) := by
  obtain ⟨⟨hx, hb, hml, hown, hts⟩, hK, hr, hlo⟩ := id C
  unfold f_M_readDefinition_b103 at h
  refine lv_iconst (v := 0) hx hb d_M_readDefinition_103 (by decide) ?_
  exact w_M_readDefinition_104 C n x1 (0 : Int32) y0 h hW hS (lv_sub hl [0, 1] rfl)
set_option maxHeartbeats 4000000 in
set_option maxRecDepth 100000 in
theorem w_M_readDefinition_74 (C : CB p s m args c meth b_M_readDefinition "TwoLevelParserModel" 4 none D cA z ac) (n : Nat) {S' : HS} (x1 : Int32) (y0 : Int32) {S : HS} {H : Heap} {locs : List Loc} {ls : Array Slot} (h : f_M_readDefinition_b74 n x1 y0 S = some S') (hW : HW D cA z ac E1 ad S H) (hS : va_S (zA z) s.heap H locs) (hl : lv_has ls 4 [(0, .ref (ad 200)), (1, .int (x1))]) : GW p l e 11 s m args below meth c D cA z ac E1 ad none S' H locs (F0 m 74 ls [.int (y0), .ref (ad 200)]) := by
  obtain ⟨⟨hx, hb, hml, hown, hts⟩, hK, hr, hlo⟩ := id C
  unfold f_M_readDefinition_b74 at h
  obtain ⟨r8, S7, eS7, h⟩ := ob2_some h
  refine hx_V (i := 200) (As := [.int (y0)]) (rest := []) C hW hS (s_M_must y0 eS7) km_M_213 kv_M_must ke_M_must kn_M kw_M_must kd_M_must (hW.fx 200 rfl) rfl q_M rfl ⟨by decide, by decide⟩ ⟨Nat.zero_le _, Nat.zero_le _⟩ rfl hl.1 rfl (Nat.le_of_ble_eq_true rfl) d_M_readDefinition_74 (fun H locs hW hS => ?_)
  refine lv_pop hx hb d_M_readDefinition_77 rfl ?_
  refine lv_aload_n hx hb d_M_readDefinition_78 rfl (lv_at hl 0 rfl) ?_
  refine hg_r (j := 211) C hW 200 11 (hW.fx 200 rfl) rfl q_M (by decide) rfl (hW.fn (E := E1) (i := 200) (k := 11) rfl) (lkF C kf_M_17) d_M_readDefinition_79 ?_
  refine lv_iload_n hx hb d_M_readDefinition_82 rfl (lv_at hl 1 rfl) ?_
  refine lv_aload_n hx hb d_M_readDefinition_83 rfl (lv_at hl 0 rfl) ?_
  refine hg_i C hW 200 3 (hW.fx 200 rfl) rfl q_M (by decide) rfl (lkF C kf_M_83) d_M_readDefinition_84 ?_
  refine lv_if_ne (tgt := 103) hx hb d_M_readDefinition_87 (by decide) (fun c87 => ?_) (fun c87 => ?_)
  · have h := ite_f c87 h
    exact w_M_readDefinition_103 C n x1 x1 h hW hS (lv_sub hl [0, 1] rfl)
  · have h := ite_t c87 h
    refine lv_aload_n hx hb d_M_readDefinition_90 rfl (lv_at hl 0 rfl) ?_
    refine hc_s (i := 36) C hW rfl (by decide) rfl rfl d_M_readDefinition_91 ?_
    obtain ⟨r9, er9, h⟩ := ob_some h
    refine hx_V (i := 200) (As := [.ref (ad 336)]) (rest := [.int (x1), .ref (ad 211)]) C hW hS (s_M_is n 336 er9) km_M_144 kv_M_is ke_M_is kn_M kw_M_is kd_M_is (hW.fx 200 rfl) rfl q_M rfl ⟨by decide, by decide⟩ ⟨Nat.zero_le _, Nat.zero_le _⟩ rfl hl.1 rfl (Nat.le_of_ble_eq_true rfl) d_M_readDefinition_93 (fun H locs hW hS => ?_)
    refine lv_if_eq (tgt := 103) hx hb d_M_readDefinition_96 (by decide) (fun c96 => ?_) (fun c96 => ?_)
    · have h := ite_t c96 h
      exact w_M_readDefinition_103 C n x1 x1 h hW hS (lv_sub hl [0, 1] rfl)
    · have h := ite_f c96 h
      refine lv_iconst (v := 1) hx hb d_M_readDefinition_99 (by decide) ?_
      refine lv_goto (tgt := 104) hx hb d_M_readDefinition_100 (by decide) ?_
      exact w_M_readDefinition_104 C n x1 (1 : Int32) x1 h hW hS (lv_sub hl [0, 1] rfl)
set_option maxHeartbeats 4000000 in
set_option maxRecDepth 100000 in
theorem w_M_readDefinition_69 (C : CB p s m args c meth b_M_readDefinition "TwoLevelParserModel" 4 none D cA z ac) (n : Nat) {S' : HS} (x1 : Int32) {S : HS} {H : Heap} {locs : List Loc} {ls : Array Slot} (h : f_M_readDefinition_b69 n x1 S = some S') (hW : HW D cA z ac E1 ad S H) (hS : va_S (zA z) s.heap H locs) (hl : lv_has ls 4 [(0, .ref (ad 200)), (1, .int (x1))]) : GW p l e 11 s m args below meth c D cA z ac E1 ad none S' H locs (F0 m 69 ls [.ref (ad 200)]) := by
  obtain ⟨⟨hx, hb, hml, hown, hts⟩, hK, hr, hlo⟩ := id C
  unfold f_M_readDefinition_b69 at h
  refine lv_iconst (v := 1) hx hb d_M_readDefinition_69 (by decide) ?_
  refine lv_goto (tgt := 74) hx hb d_M_readDefinition_70 (by decide) ?_
  exact w_M_readDefinition_74 C n x1 (1 : Int32) h hW hS (lv_sub hl [0, 1] rfl)
set_option maxHeartbeats 4000000 in
set_option maxRecDepth 100000 in
theorem w_M_readDefinition_22 (C : CB p s m args c meth b_M_readDefinition "TwoLevelParserModel" 4 none D cA z ac) (n : Nat) {S' : HS} (y0 : Int32) {S : HS} {H : Heap} {locs : List Loc} {ls : Array Slot} (h : f_M_readDefinition_b22 n y0 S = some S') (hW : HW D cA z ac E1 ad S H) (hS : va_S (zA z) s.heap H locs) (hl : lv_has ls 4 [(0, .ref (ad 200))]) : GW p l e 11 s m args below meth c D cA z ac E1 ad none S' H locs (F0 m 22 ls [.int (y0), .ref (ad 200)]) := by
  obtain ⟨⟨hx, hb, hml, hown, hts⟩, hK, hr, hlo⟩ := id C
  unfold f_M_readDefinition_b22 at h
  obtain ⟨r2, S1, eS1, h⟩ := ob2_some h
  refine hx_V (i := 200) (As := [.int (y0)]) (rest := []) C hW hS (s_M_must y0 eS1) km_M_213 kv_M_must ke_M_must kn_M kw_M_must kd_M_must (hW.fx 200 rfl) rfl q_M rfl ⟨by decide, by decide⟩ ⟨Nat.zero_le _, Nat.zero_le _⟩ rfl hl.1 rfl (Nat.le_of_ble_eq_true rfl) d_M_readDefinition_22 (fun H locs hW hS => ?_)
  refine lv_pop hx hb d_M_readDefinition_25 rfl ?_
  refine lv_aload_n hx hb d_M_readDefinition_26 rfl (lv_at hl 0 rfl) ?_
  refine hg_i C hW 200 3 (hW.fx 200 rfl) rfl q_M (by decide) rfl (lkF C kf_M_83) d_M_readDefinition_27 ?_
  refine lv_if_le (tgt := 34) hx hb d_M_readDefinition_30 (by decide) (fun c30 => ?_) (fun c30 => ?_)
  · have h := ite_t c30 h
    refine lv_aload_n hx hb d_M_readDefinition_34 rfl (lv_at hl 0 rfl) ?_
    refine hg_i C hW 200 10 (hW.fx 200 rfl) rfl q_M (by decide) rfl (lkF C kf_M_251) d_M_readDefinition_35 ?_
    obtain ⟨v3, ev3, h⟩ := lt_some h
    refine lt_i_n (lv' := [(1, .int (v3)), (0, .ref (ad 200))]) C d_M_readDefinition_38 rfl hl (by decide) ev3 rfl (fun ls hl => ?_)
    refine lv_aload_n hx hb d_M_readDefinition_39 rfl (lv_at hl 1 rfl) ?_
    obtain ⟨S4, eS4, h⟩ := ob_some h
    refine hx_V (i := 200) (As := []) (rest := []) C hW hS (s_M_next n eS4) km_M_232 kv_M_next ke_M_next kn_M kw_M_next kd_M_next (hW.fx 200 rfl) rfl q_M rfl ⟨by decide, by decide⟩ ⟨Nat.zero_le _, Nat.zero_le _⟩ rfl hl.1 rfl (Nat.le_of_ble_eq_true rfl) d_M_readDefinition_40 (fun H locs hW hS => ?_)
    refine lv_aload_n hx hb d_M_readDefinition_43 rfl (lv_at hl 1 rfl) ?_
    refine lv_aload_n hx hb d_M_readDefinition_44 rfl (lv_at hl 1 rfl) ?_
    refine hg_i C hW 200 3 (hW.fx 200 rfl) rfl q_M (by decide) rfl (lkF C kf_M_83) d_M_readDefinition_45 ?_
    refine lv_if_gt (tgt := 69) hx hb d_M_readDefinition_48 (by decide) (fun c48 => ?_) (fun c48 => ?_)
    · have h := ite_t c48 h
      exact w_M_readDefinition_69 C n v3 h hW hS (lv_sub hl [1, 0] rfl)
    · have h := ite_f c48 h
      refine lv_aload_n hx hb d_M_readDefinition_51 rfl (lv_at hl 1 rfl) ?_
      refine hc_s (i := 35) C hW rfl (by decide) rfl rfl d_M_readDefinition_52 ?_
      obtain ⟨r5, er5, h⟩ := ob_some h
      refine hx_V (i := 200) (As := [.ref (ad 335)]) (rest := [.ref (ad 200)]) C hW hS (s_M_is n 335 er5) km_M_144 kv_M_is ke_M_is kn_M kw_M_is kd_M_is (hW.fx 200 rfl) rfl q_M rfl ⟨by decide, by decide⟩ ⟨Nat.zero_le _, Nat.zero_le _⟩ rfl hl.1 rfl (Nat.le_of_ble_eq_true rfl) d_M_readDefinition_54 (fun H locs hW hS => ?_)
      refine lv_if_ne (tgt := 69) hx hb d_M_readDefinition_57 (by decide) (fun c57 => ?_) (fun c57 => ?_)
      · have h := ite_f c57 h
        exact w_M_readDefinition_69 C n v3 h hW hS (lv_sub hl [1, 0] rfl)
      · have h := ite_t c57 h
        refine lv_aload_n hx hb d_M_readDefinition_60 rfl (lv_at hl 1 rfl) ?_
        refine hc_s (i := 36) C hW rfl (by decide) rfl rfl d_M_readDefinition_61 ?_
        obtain ⟨r6, er6, h⟩ := ob_some h
        refine hx_V (i := 200) (As := [.ref (ad 336)]) (rest := [.ref (ad 200)]) C hW hS (s_M_is n 336 er6) km_M_144 kv_M_is ke_M_is kn_M kw_M_is kd_M_is (hW.fx 200 rfl) rfl q_M rfl ⟨by decide, by decide⟩ ⟨Nat.zero_le _, Nat.zero_le _⟩ rfl hl.1 rfl (Nat.le_of_ble_eq_true rfl) d_M_readDefinition_63 (fun H locs hW hS => ?_)
        refine lv_if_eq (tgt := 73) hx hb d_M_readDefinition_66 (by decide) (fun c66 => ?_) (fun c66 => ?_)
        · have h := ite_t c66 h
          refine lv_iconst (v := 0) hx hb d_M_readDefinition_73 (by decide) ?_
          exact w_M_readDefinition_74 C n v3 (0 : Int32) h hW hS (lv_sub hl [1, 0] rfl)
        · have h := ite_f c66 h
          exact w_M_readDefinition_69 C n v3 h hW hS (lv_sub hl [1, 0] rfl)
  · have h := ite_f c30 h
    have h := Option.some.inj h
    subst h
    exact he_v C hW hS d_M_readDefinition_33
set_option maxHeartbeats 4000000 in
set_option maxRecDepth 100000 in
theorem w_M_readDefinition_21 (C : CB p s m args c meth b_M_readDefinition "TwoLevelParserModel" 4 none D cA z ac) (n : Nat) {S' : HS} {S : HS} {H : Heap} {locs : List Loc} {ls : Array Slot} (h : f_M_readDefinition_b21 n S = some S') (hW : HW D cA z ac E1 ad S H) (hS : va_S (zA z) s.heap H locs) (hl : lv_has ls 4 [(0, .ref (ad 200))]) : GW p l e 11 s m args below meth c D cA z ac E1 ad none S' H locs (F0 m 21 ls [.ref (ad 200)]) := by
  obtain ⟨⟨hx, hb, hml, hown, hts⟩, hK, hr, hlo⟩ := id C
  unfold f_M_readDefinition_b21 at h
  refine lv_iconst (v := 0) hx hb d_M_readDefinition_21 (by decide) ?_
  exact w_M_readDefinition_22 C n (0 : Int32) h hW hS (lv_sub hl [0] rfl)
set_option maxHeartbeats 4000000 in
set_option maxRecDepth 100000 in
theorem s_M_readDefinition (n : Nat) {S : HS} {S' : HS} (h : f_M_readDefinition n S = some S') : Met l y_M_readDefinition (.code y_M_readDefinition b_M_readDefinition 4 none :: lw_g) (rmD 11 0 0) (PcH D cA z ac E1 ad [.ref (ad 200)] S) (QN D cA z ac E1 ad none S') 0 0 (zA z) := by
  refine Met.ofH (own := "TwoLevelParserModel") (by decide) rfl (Nat.le_of_ble_eq_true rfl) ?_
  intro p e s m args below meth c H ls C hW hS hl
  have hl : lv_has ls 4 [(0, .ref (ad 200))] := hl
  obtain ⟨⟨hx, hb, hml, hown, hts⟩, hK, hr, hlo⟩ := id C
  unfold f_M_readDefinition at h
  refine lv_aload_n hx hb d_M_readDefinition_0 rfl (lv_at hl 0 rfl) ?_
  refine lv_aload_n hx hb d_M_readDefinition_1 rfl (lv_at hl 0 rfl) ?_
  refine hg_i C hW 200 6 (hW.fx 200 rfl) rfl q_M (by decide) rfl (lkF C kf_M_99) d_M_readDefinition_2 ?_
  refine lv_if_ne (tgt := 21) hx hb d_M_readDefinition_5 (by decide) (fun c5 => ?_) (fun c5 => ?_)
  · have h := ite_f c5 h
    exact w_M_readDefinition_21 C n h hW hS (lv_sub hl [0] rfl)
  · have h := ite_t c5 h
    refine lv_aload_n hx hb d_M_readDefinition_8 rfl (lv_at hl 0 rfl) ?_
    refine hg_i C hW 200 10 (hW.fx 200 rfl) rfl q_M (by decide) rfl (lkF C kf_M_251) d_M_readDefinition_9 ?_
    refine lv_bipush (v := 64) hx hb d_M_readDefinition_12 (by decide) ?_
    refine lv_icmp_ge (tgt := 21) hx hb d_M_readDefinition_14 (by decide) (fun c14 => ?_) (fun c14 => ?_)
    · have h := ite_t c14 h
      exact w_M_readDefinition_21 C n h hW hS (lv_sub hl [0] rfl)
    · have h := ite_f c14 h
      refine lv_iconst (v := 1) hx hb d_M_readDefinition_17 (by decide) ?_
      refine lv_goto (tgt := 22) hx hb d_M_readDefinition_18 (by decide) ?_
      exact w_M_readDefinition_22 C n (1 : Int32) h hW hS (lv_sub hl [0] rfl)
end WK
def f_M_read_b67 (n : Nat) (S : HS) : Option (Int32 × HS) :=
  (if (gF S 200 3) ≤ 0 then
  some ((gF S 200 3), S)
  else
  lt (sF S 200 10 (0 : Int32)) fun S10 =>
  lt (sF S10 200 19 (0 : Int32)) fun S11 =>
  some ((gF S11 200 3), S11))
def f_M_read_b34B (n : Nat) (kc : HS → Option (Int32 × HS)) (S : HS) : Option (Int32 × HS) :=
  (if (gF S 200 3) = 0 then
  (if (gF S 200 6) = (4 : Int32) then
  f_M_read_b67 n S
  else
  ob (f_M_readDefinition n S) fun S8 =>
  (if (gF S8 200 3) = 0 then
  ob (f_M_next n S8) fun S9 =>
  kc S9
  else
  kc S8))
  else
  f_M_read_b67 n S)
def f_M_read_b34 (n : Nat) (k : Nat) : HS → Option (Int32 × HS) := lpF (fun _ => none) (f_M_read_b34B n) k
def f_M_read (n : Nat) (S : HS) : Option (Int32 × HS) :=
  lt (sF S 200 0 (0 : Int32)) fun S1 =>
  lt (sF S1 200 3 (0 : Int32)) fun S2 =>
  lt (sF S2 200 4 (-1 : Int32)) fun S3 =>
  lt (sF S3 200 10 (0 : Int32)) fun S4 =>
  lt (sF S4 200 19 (0 : Int32)) fun S5 =>
  lt (sF S5 200 5 (0 : Int32)) fun S6 =>
  ob (f_M_next n S6) fun S7 =>
  f_M_read_b34 n n S7
section WK
variable {p : Program} {l : Launch} {e : Env} {s : State} {m : MethodId} {args : Array Value} {below : List Frame} {meth : Method} {c : Code} {D : va_G} {cA : Nat → ClassId} {z : Nat} {ac : Nat → Nat} {ad : Nat → Nat}
set_option maxHeartbeats 4000000 in
set_option maxRecDepth 100000 in
theorem w_M_read_67 (C : CB p s m args c meth b_M_read "TwoLevelParserModel" 1 (some .int) D cA z ac) (n : Nat) {r : Int32} {S' : HS} {S : HS} {H : Heap} {locs : List Loc} {ls : Array Slot} (h : f_M_read_b67 n S = some (r, S')) (hW : HW D cA z ac E1 ad S H) (hS : va_S (zA z) s.heap H locs) (hl : lv_has ls 1 [(0, .ref (ad 200))]) : GW p l e 12 s m args below meth c D cA z ac E1 ad (some (.int r)) S' H locs (F0 m 67 ls []) := by
  obtain ⟨⟨hx, hb, hml, hown, hts⟩, hK, hr, hlo⟩ := id C
  unfold f_M_read_b67 at h
  refine lv_aload_n hx hb d_M_read_67 rfl (lv_at hl 0 rfl) ?_
  refine hg_i C hW 200 3 (hW.fx 200 rfl) rfl q_M (by decide) rfl (lkF C kf_M_83) d_M_read_68 ?_
  refine lv_if_le (tgt := 84) hx hb d_M_read_71 (by decide) (fun c71 => ?_) (fun c71 => ?_)
  · have h := ite_t c71 h
    refine lv_aload_n hx hb d_M_read_84 rfl (lv_at hl 0 rfl) ?_
    refine hg_i C hW 200 3 (hW.fx 200 rfl) rfl q_M (by decide) rfl (lkF C kf_M_83) d_M_read_85 ?_
    obtain ⟨hr1, hr2⟩ := Prod.mk.inj (Option.some.inj h)
    subst hr1
    subst hr2
    exact he_i C hW hS d_M_read_88
  · have h := ite_f c71 h
    refine lv_aload_n hx hb d_M_read_74 rfl (lv_at hl 0 rfl) ?_
    refine lv_iconst (v := 0) hx hb d_M_read_75 (by decide) ?_
    obtain ⟨S10, eS10, h⟩ := lt_some h
    refine hp_i C hW hS 200 10 (hW.fx 200 rfl) rfl q_M (by decide) rfl rfl rfl (lkF C kf_M_251) eS10 d_M_read_76 (fun H locs hW hS => ?_)
    refine lv_aload_n hx hb d_M_read_79 rfl (lv_at hl 0 rfl) ?_
    refine lv_iconst (v := 0) hx hb d_M_read_80 (by decide) ?_
    obtain ⟨S11, eS11, h⟩ := lt_some h
    refine hp_i C hW hS 200 19 (hW.fx 200 rfl) rfl q_M (by decide) rfl rfl rfl (lkF C kf_M_207) eS11 d_M_read_81 (fun H locs hW hS => ?_)
    refine lv_aload_n hx hb d_M_read_84 rfl (lv_at hl 0 rfl) ?_
    refine hg_i C hW 200 3 (hW.fx 200 rfl) rfl q_M (by decide) rfl (lkF C kf_M_83) d_M_read_85 ?_
    obtain ⟨hr1, hr2⟩ := Prod.mk.inj (Option.some.inj h)
    subst hr1
    subst hr2
    exact he_i C hW hS d_M_read_88
set_option maxHeartbeats 4000000 in
set_option maxRecDepth 100000 in
theorem w_M_read_34B (C : CB p s m args c meth b_M_read "TwoLevelParserModel" 1 (some .int) D cA z ac) (n : Nat) (kc : HS → Option (Int32 × HS)) {r : Int32} {S' : HS} (hk : ∀ (S : HS) {H : Heap} {locs : List Loc} {ls : Array Slot}, kc S = some (r, S') → HW D cA z ac E1 ad S H → va_S (zA z) s.heap H locs → lv_has ls 1 [(0, .ref (ad 200))] → GW p l e 12 s m args below meth c D cA z ac E1 ad (some (.int r)) S' H locs (F0 m 34 ls [])) {S : HS} {H : Heap} {locs : List Loc} {ls : Array Slot} (h : f_M_read_b34B n kc S = some (r, S')) (hW : HW D cA z ac E1 ad S H) (hS : va_S (zA z) s.heap H locs) (hl : lv_has ls 1 [(0, .ref (ad 200))]) : GW p l e 12 s m args below meth c D cA z ac E1 ad (some (.int r)) S' H locs (F0 m 34 ls []) := by
  obtain ⟨⟨hx, hb, hml, hown, hts⟩, hK, hr, hlo⟩ := id C
  unfold f_M_read_b34B at h
  refine lv_aload_n hx hb d_M_read_34 rfl (lv_at hl 0 rfl) ?_
  refine hg_i C hW 200 3 (hW.fx 200 rfl) rfl q_M (by decide) rfl (lkF C kf_M_83) d_M_read_35 ?_
  refine lv_if_ne (tgt := 67) hx hb d_M_read_38 (by decide) (fun c38 => ?_) (fun c38 => ?_)
  · have h := ite_f c38 h
    exact w_M_read_67 C n h hW hS (lv_sub hl [0] rfl)
  · have h := ite_t c38 h
    refine lv_aload_n hx hb d_M_read_41 rfl (lv_at hl 0 rfl) ?_
    refine hg_i C hW 200 6 (hW.fx 200 rfl) rfl q_M (by decide) rfl (lkF C kf_M_99) d_M_read_42 ?_
    refine lv_iconst (v := 4) hx hb d_M_read_45 (by decide) ?_
    refine lv_icmp_eq (tgt := 67) hx hb d_M_read_46 (by decide) (fun c46 => ?_) (fun c46 => ?_)
    · have h := ite_t c46 h
      exact w_M_read_67 C n h hW hS (lv_sub hl [0] rfl)
    · have h := ite_f c46 h
      refine lv_aload_n hx hb d_M_read_49 rfl (lv_at hl 0 rfl) ?_
      obtain ⟨S8, eS8, h⟩ := ob_some h
      refine hx_V (i := 200) (As := []) (rest := []) C hW hS (s_M_readDefinition n eS8) km_M_261 kv_M_readDefinition ke_M_readDefinition kn_M kw_M_readDefinition kd_M_readDefinition (hW.fx 200 rfl) rfl q_M rfl ⟨by decide, by decide⟩ ⟨Nat.zero_le _, Nat.zero_le _⟩ rfl hl.1 rfl (Nat.le_of_ble_eq_true rfl) d_M_read_50 (fun H locs hW hS => ?_)
      refine lv_aload_n hx hb d_M_read_53 rfl (lv_at hl 0 rfl) ?_
      refine hg_i C hW 200 3 (hW.fx 200 rfl) rfl q_M (by decide) rfl (lkF C kf_M_83) d_M_read_54 ?_
      refine lv_if_ne (tgt := 34) hx hb d_M_read_57 (by decide) (fun c57 => ?_) (fun c57 => ?_)
      · have h := ite_f c57 h
        exact hk _ h hW hS (lv_sub hl [0] rfl)
      · have h := ite_t c57 h
        refine lv_aload_n hx hb d_M_read_60 rfl (lv_at hl 0 rfl) ?_
        obtain ⟨S9, eS9, h⟩ := ob_some h
        refine hx_V (i := 200) (As := []) (rest := []) C hW hS (s_M_next n eS9) km_M_232 kv_M_next ke_M_next kn_M kw_M_next kd_M_next (hW.fx 200 rfl) rfl q_M rfl ⟨by decide, by decide⟩ ⟨Nat.zero_le _, Nat.zero_le _⟩ rfl hl.1 rfl (Nat.le_of_ble_eq_true rfl) d_M_read_61 (fun H locs hW hS => ?_)
        refine lv_goto (tgt := 34) hx hb d_M_read_64 (by decide) ?_
        exact hk _ h hW hS (lv_sub hl [0] rfl)
set_option maxHeartbeats 4000000 in
set_option maxRecDepth 100000 in
theorem w_M_read_34 (C : CB p s m args c meth b_M_read "TwoLevelParserModel" 1 (some .int) D cA z ac) (n : Nat) (k : Nat) {r : Int32} {S' : HS} : ∀ {S : HS} {H : Heap} {locs : List Loc} {ls : Array Slot}, f_M_read_b34 n k S = some (r, S') → HW D cA z ac E1 ad S H → va_S (zA z) s.heap H locs → lv_has ls 1 [(0, .ref (ad 200))] → GW p l e 12 s m args below meth c D cA z ac E1 ad (some (.int r)) S' H locs (F0 m 34 ls []) := by
  induction k with
  | zero => intro S H locs ls h; cases h
  | succ k ih => intro S H locs ls h hW hS hl; exact w_M_read_34B C n (f_M_read_b34 n k) (fun S H locs ls h hW hS hl => ih h hW hS hl) h hW hS hl
set_option maxHeartbeats 4000000 in
set_option maxRecDepth 100000 in
theorem s_M_read (n : Nat) {S : HS} {r : Int32} {S' : HS} (h : f_M_read n S = some (r, S')) : Met l y_M_read (.code y_M_read b_M_read 1 (some .int) :: lw_g) (rmD 12 0 0) (PcH D cA z ac E1 ad [.ref (ad 200)] S) (QN D cA z ac E1 ad (some (.int r)) S') 0 0 (zA z) := by
  refine Met.ofH (own := "TwoLevelParserModel") (by decide) rfl (Nat.le_of_ble_eq_true rfl) ?_
  intro p e s m args below meth c H ls C hW hS hl
  have hl : lv_has ls 1 [(0, .ref (ad 200))] := hl
  obtain ⟨⟨hx, hb, hml, hown, hts⟩, hK, hr, hlo⟩ := id C
  unfold f_M_read at h
  refine lv_aload_n hx hb d_M_read_0 rfl (lv_at hl 0 rfl) ?_
  refine lv_iconst (v := 0) hx hb d_M_read_1 (by decide) ?_
  obtain ⟨S1, eS1, h⟩ := lt_some h
  refine hp_i C hW hS 200 0 (hW.fx 200 rfl) rfl q_M (by decide) rfl rfl rfl (lkF C kf_M_77) eS1 d_M_read_2 (fun H locs hW hS => ?_)
  refine lv_aload_n hx hb d_M_read_5 rfl (lv_at hl 0 rfl) ?_
  refine lv_iconst (v := 0) hx hb d_M_read_6 (by decide) ?_
  obtain ⟨S2, eS2, h⟩ := lt_some h
  refine hp_i C hW hS 200 3 (hW.fx 200 rfl) rfl q_M (by decide) rfl rfl rfl (lkF C kf_M_83) eS2 d_M_read_7 (fun H locs hW hS => ?_)
  refine lv_aload_n hx hb d_M_read_10 rfl (lv_at hl 0 rfl) ?_
  refine lv_iconst (v := -1) hx hb d_M_read_11 (by decide) ?_
  obtain ⟨S3, eS3, h⟩ := lt_some h
  refine hp_i C hW hS 200 4 (hW.fx 200 rfl) rfl q_M (by decide) rfl rfl rfl (lkF C kf_M_13) eS3 d_M_read_12 (fun H locs hW hS => ?_)
  refine lv_aload_n hx hb d_M_read_15 rfl (lv_at hl 0 rfl) ?_
  refine lv_iconst (v := 0) hx hb d_M_read_16 (by decide) ?_
  obtain ⟨S4, eS4, h⟩ := lt_some h
  refine hp_i C hW hS 200 10 (hW.fx 200 rfl) rfl q_M (by decide) rfl rfl rfl (lkF C kf_M_251) eS4 d_M_read_17 (fun H locs hW hS => ?_)
  refine lv_aload_n hx hb d_M_read_20 rfl (lv_at hl 0 rfl) ?_
  refine lv_iconst (v := 0) hx hb d_M_read_21 (by decide) ?_
  obtain ⟨S5, eS5, h⟩ := lt_some h
  refine hp_i C hW hS 200 19 (hW.fx 200 rfl) rfl q_M (by decide) rfl rfl rfl (lkF C kf_M_207) eS5 d_M_read_22 (fun H locs hW hS => ?_)
  refine lv_aload_n hx hb d_M_read_25 rfl (lv_at hl 0 rfl) ?_
  refine lv_iconst (v := 0) hx hb d_M_read_26 (by decide) ?_
  obtain ⟨S6, eS6, h⟩ := lt_some h
  refine hp_i C hW hS 200 5 (hW.fx 200 rfl) rfl q_M (by decide) rfl rfl rfl (lkF C kf_M_93) eS6 d_M_read_27 (fun H locs hW hS => ?_)
  refine lv_aload_n hx hb d_M_read_30 rfl (lv_at hl 0 rfl) ?_
  obtain ⟨S7, eS7, h⟩ := ob_some h
  refine hx_V (i := 200) (As := []) (rest := []) C hW hS (s_M_next n eS7) km_M_232 kv_M_next ke_M_next kn_M kw_M_next kd_M_next (hW.fx 200 rfl) rfl q_M rfl ⟨by decide, by decide⟩ ⟨Nat.zero_le _, Nat.zero_le _⟩ rfl hl.1 rfl (Nat.le_of_ble_eq_true rfl) d_M_read_31 (fun H locs hW hS => ?_)
  exact w_M_read_34 C n n h hW hS (lv_sub hl [0] rfl)
end WK
