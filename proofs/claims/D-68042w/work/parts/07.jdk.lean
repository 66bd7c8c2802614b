-- THE JDK's methods of a text that is a constant
section JD
variable {l : Launch} {D : va_G} {cA : Nat → ClassId} {z : Nat} {ac : Nat → Nat} {E : EV} {ad : Nat → Nat} {S : HS}
theorem tx_ascii {a k : Nat} (hk : k < (sB a).length) : (((sB a).getD k 0 &&& 255).toUInt32 % 65536).toInt32 = (sB a).getD k 0 := by
  have hm : (sB a).getD k 0 ∈ sB a := by rw [List.getD_eq_getElem?_getD, List.getElem?_eq_getElem hk]; exact List.getElem_mem hk
  have hb : sB a ∈ st_B := by
    unfold sB at hk ⊢
    by_cases h : a - 300 < st_B.length
    · rw [List.getD_eq_getElem?_getD, List.getElem?_eq_getElem h]; exact List.getElem_mem h
    · rw [List.getD_eq_getElem?_getD, List.getElem?_eq_none (by omega)] at hk
      exact absurd hk (by simp)
  exact st_ascii _ hb _ hm
theorem tx_fits {a k : Nat} (hk : k < (sB a).length) : narrow .char (.int ((sB a).getD k 0)) = .int ((sB a).getD k 0) := by
  rw [← tx_ascii hk]
  exact pk_nc _
set_option maxHeartbeats 1000000 in
theorem s_Js_coder (a : Nat) (ha : isT a) : Met l y_Js_coder (.code y_Js_coder b_Js_coder 1 (some .byte) :: lw_g) (rmD 0 0 0) (PcH D cA z ac E ad [.ref (ad a)] S) (QN D cA z ac E ad (some (.int 0)) S) 0 0 (zA z) := by
  refine Met.ofH (own := "java/lang/String") (by decide) rfl (Nat.le_of_ble_eq_true rfl) ?_
  intro p e s m args below meth c H ls C hW hS hl
  obtain ⟨q, hq⟩ := st_at ha
  obtain ⟨⟨hx, hb, hml, hown, hts⟩, hK, hr, hlo⟩ := id C
  obtain ⟨-, a1, a2, a3, a4⟩ := hK.2.2.1 _ q hq
  have hea : ad a = ac (300 + (a - 300)) := by rw [show 300 + (a - 300) = a by omega]; exact hW.cst a (by omega) (by omega)
  have hl : lv_has ls 1 [(0, .ref (ad a))] := hl
  refine va_gets hx hb hK.2.2.2.2.1 hS hown (hts _ kf_Js_38) (fun _ h => h) d_Js_coder_0 ?_
  refine lv_if_eq (tgt := 13) hx hb d_Js_coder_3 (by decide) (fun h => absurd h (by decide)) (fun _ => ?_)
  refine lv_aload_n hx hb d_Js_coder_6 rfl (lv_at hl 0 rfl) ?_
  rw [hea]
  refine vk_getf hx hb a2 hS hown (hts _ kf_Js_15) (fun _ h => h) d_Js_coder_7 ?_
  refine lv_goto (tgt := 14) hx hb d_Js_coder_10 (by decide) ?_
  exact W.zret hx hb hr rfl (fun t ht _ => QN.mk hW hS ht) hS.2.2 d_Js_coder_14 hlo
set_option maxHeartbeats 1000000 in
theorem s_Js_isLatin1 (a : Nat) (ha : isT a) : Met l y_Js_isLatin1 (.code y_Js_isLatin1 b_Js_isLatin1 1 (some .boolean) :: lw_g) (rmD 0 0 0) (PcH D cA z ac E ad [.ref (ad a)] S) (QN D cA z ac E ad (some (.int 1)) S) 0 0 (zA z) := by
  refine Met.ofH (own := "java/lang/String") (by decide) rfl (Nat.le_of_ble_eq_true rfl) ?_
  intro p e s m args below meth c H ls C hW hS hl
  obtain ⟨q, hq⟩ := st_at ha
  obtain ⟨⟨hx, hb, hml, hown, hts⟩, hK, hr, hlo⟩ := id C
  obtain ⟨-, a1, a2, a3, a4⟩ := hK.2.2.1 _ q hq
  have hea : ad a = ac (300 + (a - 300)) := by rw [show 300 + (a - 300) = a by omega]; exact hW.cst a (by omega) (by omega)
  have hl : lv_has ls 1 [(0, .ref (ad a))] := hl
  refine va_gets hx hb hK.2.2.2.2.1 hS hown (hts _ kf_Js_38) (fun _ h => h) d_Js_isLatin1_0 ?_
  refine lv_if_eq (tgt := 17) hx hb d_Js_isLatin1_3 (by decide) (fun h => absurd h (by decide)) (fun _ => ?_)
  refine lv_aload_n hx hb d_Js_isLatin1_6 rfl (lv_at hl 0 rfl) ?_
  rw [hea]
  refine vk_getf hx hb a2 hS hown (hts _ kf_Js_15) (fun _ h => h) d_Js_isLatin1_7 ?_
  refine lv_if_ne (tgt := 17) hx hb d_Js_isLatin1_10 (by decide) (fun h => absurd rfl h) (fun _ => ?_)
  refine lv_iconst (v := 1) hx hb d_Js_isLatin1_13 (by decide) ?_
  refine lv_goto (tgt := 18) hx hb d_Js_isLatin1_14 (by decide) ?_
  exact he_z C hW hS (Or.inr rfl) d_Js_isLatin1_18
set_option maxHeartbeats 1000000 in
theorem s_Js_length (a : Nat) (ha : isT a) : Met l y_Js_length (.code y_Js_length b_Js_length 1 (some .int) :: lw_g) (rmD 1 0 0) (PcH D cA z ac E ad [.ref (ad a)] S) (QN D cA z ac E ad (some (.int (nI (sB a).length))) S) 0 0 (zA z) := by
  refine Met.ofH (own := "java/lang/String") (by decide) rfl (Nat.le_of_ble_eq_true rfl) ?_
  intro p e s m args below meth c H ls C hW hS hl
  obtain ⟨q, hq⟩ := st_at ha
  obtain ⟨⟨hx, hb, hml, hown, hts⟩, hK, hr, hlo⟩ := id C
  obtain ⟨-, a1, a2, a3, a4⟩ := hK.2.2.1 _ q hq
  have hea : ad a = ac (300 + (a - 300)) := by rw [show 300 + (a - 300) = a by omega]; exact hW.cst a (by omega) (by omega)
  have hl : lv_has ls 1 [(0, .ref (ad a))] := hl
  refine lv_aload_n hx hb d_Js_length_0 rfl (lv_at hl 0 rfl) ?_
  rw [hea]
  refine vk_getf hx hb a3 hS hown (hts _ kf_Js_9) (fun _ h => h) d_Js_length_1 ?_
  refine va_tlen hx hb a4 hS (v := nI (sB a).length) rfl d_Js_length_4 ?_
  refine lv_aload_n hx hb d_Js_length_5 rfl (lv_at hl 0 rfl) ?_
  have e20 : a = 300 + (a - 300) := by omega
  refine hx_T (i := a - 300) (As := []) (rest := [.int (nI (sB a).length)]) C hW hS (s_Js_coder (300 + (a - 300)) (by omega)) km_Js_335 kv_Js_coder ke_Js_coder kn_Js kw_Js_coder kd_Js_coder hq (by omega) rfl ⟨by decide, by decide⟩ ⟨Nat.zero_le _, Nat.zero_le _⟩ rfl hl.1 (by rw [← e20]; rfl) (Nat.le_of_ble_eq_true rfl) d_Js_length_6 (fun H locs hW hS => ?_)
  refine lv_ishr hx hb d_Js_length_9 ?_
  rw [show nI (sB a).length >>> ((0 : Int32) &&& 31) = nI (sB a).length from sb_shr0 _]
  exact he_i C hW hS d_Js_length_10
set_option maxHeartbeats 1000000 in
theorem s_Jp_checkIndex (x n : Int32) (v3 : Value) (h3 : v3 = .null ∨ ∃ t, v3 = .ref t) (h0 : ¬ x < 0) (h1 : x < n) : Met l y_Jp_checkIndex (.code y_Jp_checkIndex b_Jp_checkIndex 3 (some .int) :: lw_g) (rmD 0 0 0) (PcH D cA z ac E ad [.int x, .int n, v3] S) (QN D cA z ac E ad (some (.int x)) S) 0 0 (zA z) := by
  refine Met.ofH (own := "jdk/internal/util/Preconditions") (by decide) rfl (by rcases h3 with rfl | ⟨t, rfl⟩ <;> exact Nat.le_of_ble_eq_true rfl) ?_
  intro p e s m args below meth c H ls C hW hS hl
  obtain ⟨⟨hx, hb, hml, hown, hts⟩, hK, hr, hlo⟩ := id C
  have hl : lv_has ls 3 [(0, .int x), (1, .int n)] := by rcases h3 with rfl | ⟨t, rfl⟩ <;> exact lv_sub hl [0, 1] rfl
  refine lv_iload_n hx hb d_Jp_checkIndex_0 rfl (lv_at hl 0 rfl) ?_
  refine lv_if_lt (tgt := 9) hx hb d_Jp_checkIndex_1 (by decide) (fun h => absurd h h0) (fun _ => ?_)
  refine lv_iload_n hx hb d_Jp_checkIndex_4 rfl (lv_at hl 0 rfl) ?_
  refine lv_iload_n hx hb d_Jp_checkIndex_5 rfl (lv_at hl 1 rfl) ?_
  refine lv_icmp_lt (tgt := 16) hx hb d_Jp_checkIndex_6 (by decide) (fun _ => ?_) (fun h => absurd h1 h)
  refine lv_iload_n hx hb d_Jp_checkIndex_16 rfl (lv_at hl 0 rfl) ?_
  exact he_i C hW hS d_Jp_checkIndex_17
set_option maxHeartbeats 1000000 in
theorem s_Js_checkIndex (x n : Int32) (h0 : ¬ x < 0) (h1 : x < n) : Met l y_Js_checkIndex (.code y_Js_checkIndex b_Js_checkIndex 2 none :: lw_g) (rmD 1 0 0) (PcH D cA z ac E ad [.int x, .int n] S) (QN D cA z ac E ad none S) 0 0 (zA z) := by
  refine Met.ofH (own := "java/lang/String") (by decide) rfl (Nat.le_of_ble_eq_true rfl) ?_
  intro p e s m args below meth c H ls C hW hS hl
  obtain ⟨⟨hx, hb, hml, hown, hts⟩, hK, hr, hlo⟩ := id C
  have hl : lv_has ls 2 [(0, .int x), (1, .int n)] := hl
  refine lv_iload_n hx hb d_Js_checkIndex_0 rfl (lv_at hl 0 rfl) ?_
  refine lv_iload_n hx hb d_Js_checkIndex_1 rfl (lv_at hl 1 rfl) ?_
  obtain ⟨v3, h3, hz⟩ : ∃ v3 : Value, (v3 = .null ∨ ∃ t, v3 = .ref t) ∧ va_Z "jdk/internal/util/Preconditions" "SIOOBE_FORMATTER" "Ljava/util/function/BiFunction;" v3 (zA z) s s.heap := by
    rcases hK.2.2.2.2.2.1 with h | ⟨t, h⟩
    · exact ⟨_, Or.inl rfl, h⟩
    · exact ⟨_, Or.inr ⟨t, rfl⟩, h⟩
  refine va_gets hx hb hz hS hown (hts _ kf_Js_1053) (fun _ h => h) d_Js_checkIndex_2 ?_
  refine hx_S (As := [.int x, .int n, v3]) (rest := []) C hW hS (s_Jp_checkIndex x n v3 h3 h0 h1) km_Js_1059 kv_Jp_checkIndex kn_Jp kw_Jp_checkIndex kd_Jp_checkIndex ⟨by decide, by decide⟩ ⟨Nat.zero_le _, Nat.zero_le _⟩ rfl hl.1 rfl (by decide) d_Js_checkIndex_5 (fun H locs hW hS => ?_)
  refine lv_pop hx hb d_Js_checkIndex_8 rfl ?_
  exact he_v C hW hS d_Js_checkIndex_9
theorem tx_lt {x : Int32} {n : Nat} (hn : n < 2 ^ 31) (h : inR x n) : ¬ x < 0 ∧ x < nI n := by
  obtain ⟨j, hj, rfl⟩ := vp_in_of (x := x) (n := n) h hn
  exact ⟨nI_pos (by omega), nI_lt hj hn⟩
theorem tx_small (a : Nat) : (sB a).length < 2 ^ 31 := by
  have h : ∀ bs ∈ st_B, bs.length < 100 := by decide +kernel
  unfold sB
  by_cases h1 : a - 300 < st_B.length
  · rw [List.getD_eq_getElem?_getD, List.getElem?_eq_getElem h1]
    have h2 := h _ (List.getElem_mem h1)
    rw [Option.getD_some]
    exact Nat.lt_trans h2 (by decide)
  · rw [List.getD_eq_getElem?_getD, List.getElem?_eq_none (by omega)]
    decide
set_option maxHeartbeats 1000000 in
theorem s_Jl_charAt (a : Nat) (ha : isT a) (x : Int32) (hx0 : inR x (sB a).length) : Met l y_Jl_charAt (.code y_Jl_charAt b_Jl_charAt 2 (some .char) :: lw_g) (rmD 2 0 0) (PcH D cA z ac E ad [.ref (ac (400 + (a - 300))), .int x] S) (QN D cA z ac E ad (some (.int ((sB a).getD x.toNatClampNeg 0))) S) 0 0 (zA z) := by
  refine Met.ofH (own := "java/lang/StringLatin1") (by decide) rfl (Nat.le_of_ble_eq_true rfl) ?_
  intro p e s m args below meth c H ls C hW hS hl
  obtain ⟨q, hq⟩ := st_at ha
  obtain ⟨⟨hx, hb, hml, hown, hts⟩, hK, hr, hlo⟩ := id C
  obtain ⟨-, a1, a2, a3, a4⟩ := hK.2.2.1 _ q hq
  have hl : lv_has ls 2 [(0, .ref (ac (400 + (a - 300)))), (1, .int x)] := hl
  obtain ⟨h0, h1⟩ := tx_lt (tx_small a) hx0
  refine lv_iload_n hx hb d_Jl_charAt_0 rfl (lv_at hl 1 rfl) ?_
  refine lv_aload_n hx hb d_Jl_charAt_1 rfl (lv_at hl 0 rfl) ?_
  refine va_tlen hx hb a4 hS (v := nI (sB a).length) rfl d_Jl_charAt_2 ?_
  refine hx_S (As := [.int x, .int (nI (sB a).length)]) (rest := []) C hW hS (s_Js_checkIndex x _ h0 h1) km_Jl_9 kv_Js_checkIndex kn_Js kw_Js_checkIndex kd_Js_checkIndex ⟨by decide, by decide⟩ ⟨Nat.zero_le _, Nat.zero_le _⟩ rfl hl.1 rfl (by decide) d_Jl_charAt_3 (fun H locs hW hS => ?_)
  refine lv_aload_n hx hb d_Jl_charAt_6 rfl (lv_at hl 0 rfl) ?_
  refine lv_iload_n hx hb d_Jl_charAt_7 rfl (lv_at hl 1 rfl) ?_
  refine va_tb hx hb a4 hS hx0 (v := .int ((sB a).getD x.toNatClampNeg 0)) rfl d_Jl_charAt_8 ?_
  refine lv_sipush (v := 255) hx hb d_Jl_charAt_9 (by decide) ?_
  refine lv_iand hx hb d_Jl_charAt_12 ?_
  refine lv_i2c hx hb d_Jl_charAt_13 (tx_ascii (ha_lt hx0)) ?_
  exact W.zret hx hb hr (tx_fits (ha_lt hx0)) (fun t ht _ => QN.mk hW hS ht) hS.2.2 d_Jl_charAt_14 hlo
set_option maxHeartbeats 1000000 in
theorem s_Js_charAt (a : Nat) (ha : isT a) (x : Int32) (hx0 : inR x (sB a).length) : Met l y_Js_charAt (.code y_Js_charAt b_Js_charAt 2 (some .char) :: lw_g) (rmD 3 0 0) (PcH D cA z ac E ad [.ref (ad a), .int x] S) (QN D cA z ac E ad (some (.int ((sB a).getD x.toNatClampNeg 0))) S) 0 0 (zA z) := by
  refine Met.ofH (own := "java/lang/String") (by decide) rfl (Nat.le_of_ble_eq_true rfl) ?_
  intro p e s m args below meth c H ls C hW hS hl
  obtain ⟨q, hq⟩ := st_at ha
  obtain ⟨⟨hx, hb, hml, hown, hts⟩, hK, hr, hlo⟩ := id C
  obtain ⟨-, a1, a2, a3, a4⟩ := hK.2.2.1 _ q hq
  have hea : ad a = ac (300 + (a - 300)) := by rw [show 300 + (a - 300) = a by omega]; exact hW.cst a (by omega) (by omega)
  have hl : lv_has ls 2 [(0, .ref (ad a)), (1, .int x)] := hl
  have e20 : a = 300 + (a - 300) := by omega
  refine lv_aload_n hx hb d_Js_charAt_0 rfl (lv_at hl 0 rfl) ?_
  refine hx_T (i := a - 300) (As := []) (rest := []) C hW hS (s_Js_isLatin1 (300 + (a - 300)) (by omega)) km_Js_492 kv_Js_isLatin1 ke_Js_isLatin1 kn_Js kw_Js_isLatin1 kd_Js_isLatin1 hq (by omega) rfl ⟨by decide, by decide⟩ ⟨Nat.zero_le _, Nat.zero_le _⟩ rfl hl.1 (by rw [← e20]; rfl) (by decide) d_Js_charAt_1 (fun H locs hW hS => ?_)
  refine lv_if_eq (tgt := 16) hx hb d_Js_charAt_4 (by decide) (fun h => absurd h (by decide)) (fun _ => ?_)
  refine lv_aload_n hx hb d_Js_charAt_7 rfl (lv_at hl 0 rfl) ?_
  rw [hea]
  refine vk_getf hx hb a3 hS hown (hts _ kf_Js_9) (fun _ h => h) d_Js_charAt_8 ?_
  refine lv_iload_n hx hb d_Js_charAt_11 rfl (lv_at hl 1 rfl) ?_
  refine hx_S (As := [.ref (ac (400 + (a - 300))), .int x]) (rest := []) C hW hS (s_Jl_charAt a ha x hx0) km_Js_495 kv_Jl_charAt kn_Jl kw_Jl_charAt kd_Jl_charAt ⟨by decide, by decide⟩ ⟨Nat.zero_le _, Nat.zero_le _⟩ rfl hl.1 rfl (by decide) d_Js_charAt_12 (fun H locs hW hS => ?_)
  exact W.zret hx hb hr (tx_fits (ha_lt hx0)) (fun t ht _ => QN.mk hW hS ht) hS.2.2 d_Js_charAt_15 hlo
/-- what the two answer, as the printed functions call them -/
def f_Js_length (a : Nat) : Option Int32 := gd (isT a) (some (nI (sB a).length))
def f_Js_charAt (a : Nat) (x : Int32) : Option Int32 := gd (isT a) (gd (inR x (sB a).length) (some ((sB a).getD x.toNatClampNeg 0)))
end JD
section JC
variable {p : Program} {l : Launch} {e : Env} {R : Jvm.Room} {s : State} {m : MethodId} {args : Array Value} {below : List Frame} {meth : Method} {c : Code} {H : Heap} {locs : List Loc} {cells slots : Nat} {Q : State → Prop}
variable {cc : ByteArray} {pc : Nat} {ls : Array Slot} {rest : List Value} {own : String} {nL : Nat} {rt : Option FieldType} {D : va_G} {cA : Nat → ClassId} {z : Nat} {ac : Nat → Nat} {E : EV} {ad : Nat → Nat} {S S1 : HS}
theorem hx_len {a idx : Nat} {r : Int32} (C : CB p s m args c meth cc own nL rt D cA z ac) (hW : HW D cA z ac E ad S H) (hS : va_S (zA z) s.heap H locs) (h : f_Js_length a = some r) (hl : Cond.methodLink own idx y_Js_length ∈ lw_g) (hR : 2 ≤ R.frames ∧ 51 ≤ R.locals) (hcs : cells ≤ R.cells ∧ slots ≤ R.slots) (hsz : ls.size = nL) (hrm : (rest.map fun v => v.category).sum ≤ 8) (hdg : decode cc pc = .ok (.invokevirtual idx, 3))
    (kk : ∀ (H : Heap) (locs : List Loc), HW D cA z ac E ad S H → va_S (zA z) s.heap H locs → W p l e R s m args below meth c H locs cells slots Q (F0 m (pc + 3) ls (.int r :: rest))) : W p l e R s m args below meth c H locs cells slots Q (F0 m pc ls (.ref (ad a) :: rest)) := by
  obtain ⟨ha, h⟩ := gd_some h
  have h := Option.some.inj h
  subst h
  obtain ⟨q, hq⟩ := st_at ha
  have e20 : a = 300 + (a - 300) := by omega
  have hM := s_Js_length (l := l) (D := D) (cA := cA) (z := z) (ac := ac) (E := E) (ad := ad) (S := S) (300 + (a - 300)) (by omega)
  rw [← e20] at hM
  exact hx_T (i := a - 300) (As := []) (rest := rest) C hW hS (by rw [← e20]; exact hM) hl kv_Js_length ke_Js_length kn_Js kw_Js_length kd_Js_length hq (by omega) rfl ⟨hR.1, by omega⟩ hcs rfl hsz (by rw [← e20]; rfl) hrm hdg kk
theorem hx_chr {a idx : Nat} {x r : Int32} (C : CB p s m args c meth cc own nL rt D cA z ac) (hW : HW D cA z ac E ad S H) (hS : va_S (zA z) s.heap H locs) (h : f_Js_charAt a x = some r) (hl : Cond.methodLink own idx y_Js_charAt ∈ lw_g) (hR : 4 ≤ R.frames ∧ 124 ≤ R.locals) (hcs : cells ≤ R.cells ∧ slots ≤ R.slots) (hsz : ls.size = nL) (hrm : (rest.map fun v => v.category).sum ≤ 8) (hdg : decode cc pc = .ok (.invokevirtual idx, 3))
    (kk : ∀ (H : Heap) (locs : List Loc), HW D cA z ac E ad S H → va_S (zA z) s.heap H locs → W p l e R s m args below meth c H locs cells slots Q (F0 m (pc + 3) ls (.int r :: rest))) : W p l e R s m args below meth c H locs cells slots Q (F0 m pc ls (.int x :: .ref (ad a) :: rest)) := by
  obtain ⟨ha, h⟩ := gd_some h
  obtain ⟨hx0, h⟩ := gd_some h
  have h := Option.some.inj h
  subst h
  obtain ⟨q, hq⟩ := st_at ha
  have e20 : a = 300 + (a - 300) := by omega
  have hM := s_Js_charAt (l := l) (D := D) (cA := cA) (z := z) (ac := ac) (E := E) (ad := ad) (S := S) a ha x hx0
  exact hx_T (i := a - 300) (As := [.int x]) (rest := rest) C hW hS (by rw [← e20]; exact hM) hl kv_Js_charAt ke_Js_charAt kn_Js kw_Js_charAt kd_Js_charAt hq (by omega) rfl ⟨hR.1, by omega⟩ hcs rfl hsz (by rw [← e20]; rfl) hrm hdg kk
end JC
