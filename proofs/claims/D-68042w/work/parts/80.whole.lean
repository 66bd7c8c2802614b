-- THE LAW FROM ITS ENTRY
def Sz : HS := (fun _ _ => 0, fun _ _ => 0, fun _ _ => none, fun _ => false, 0, 0)
def Full (S : HS) : Prop := (∀ i, fxB i = true → gD S i = true) ∧ ∀ i k j, finR i k = some j → gX S i k = some j
theorem HW.full {D : va_G} {cA : Nat → ClassId} {z : Nat} {ac : Nat → Nat} {ad : Nat → Nat} {S : HS} {H : Heap} (h : HW D cA z ac E0 ad S H) (hf : Full S) : HW D cA z ac E1 ad S H := ⟨h.1, h.2.1, h.2.2.1, h.2.2.2.1, hf.1, hf.2, h.2.2.2.2.2.2⟩
/-- what the plain law owes to the walk -/
def PureOK (L : Nat) (xs : Nat → Int32) : Prop := ∃ (n k : Nat) (S1 S2 : HS), f_P_init n 0 (sN Sz 0 9) = some S1 ∧ gD S1 200 = false ∧ (gC S1 ≤ 500000 ∧ gN S1 ≤ 7000000) ∧ f_M_init 200 (sN S1 200 33) = some S2 ∧ Full S2 ∧ (gC S2 ≤ 600000 ∧ gN S2 ≤ 7302249) ∧ f_law_b18 n xs L k 0 S2 = some 1
set_option maxHeartbeats 4000000 in
set_option maxRecDepth 100000 in
theorem whole_of {p : Program} {e : Env} {s : State} {m : MethodId} {below : List Frame} {meth : Method} {c : Code} (l : Launch) {b L : Nat} {xs : Nat → Int32} (hpure : PureOK L xs) (C0 : lw_At p s m meth c b L xs) : W p l e room_1 s m #[Value.ref b] below meth c s.heap [] 0 0 (lw_Z below #[Value.ref b] s) (entryFrame m ([Value.ref b] : List Value).toArray 4) := by
  obtain ⟨hx, hb, hr, hml, hown, hts, hX, hbl, hlocks, hgv⟩ := id C0
  obtain ⟨n, k, S1, S2, hP, h200, hB1, hM, hfull, hB2, hlaw⟩ := hpure
  obtain ⟨D, cA, ac, hK⟩ := kk_start hts hgv
  have C : CB p s m #[Value.ref b] c meth code "TwoLevelParserLaw" 4 ret D cA s.heap.size ac := ⟨⟨hx, hb, hml, hown, fun w hw => hts w (lw_g_tbl hw)⟩, hK, hr, hlocks⟩
  have hW : HW D cA s.heap.size ac E0 ac Sz s.heap := ⟨fun i h => (by cases h), fun i j h => (by cases h), fun i h => (by cases h), fun i k j h => (by cases h), fun i h => (by cases h), fun i k j h => (by cases h), fun j _ _ => ⟨rfl, rfl⟩⟩
  have hS : va_S (zA s.heap.size) s.heap s.heap [] := va_S.rf
  have hT : AC Sz ac Sz ac := AC.rf
  have hl := lv_entry ([.ref b]) (n := 4) (Nat.le_of_ble_eq_true rfl)
  rw [lg_entry_eq]
  generalize (lg_sl ([.ref b]) ++ List.replicate (4 - (lg_sl ([.ref b])).length) Slot.unset).toArray = ls at hl ⊢
  have hl : lv_has ls 4 [(0, .ref b)] := hl
  refine W.widen (k := gC Sz - gC Sz) (n := gN Sz - gN Sz) (Nat.zero_le _) (Nat.zero_le _) ?_
  refine hn_o (i := 0) C hW hS hT (Nat.le_refl _) rfl q_P rfl (by decide) (fun _ => rfl) (S1 := sN Sz 0 9) rfl kc_law_7 kt_P kn_P ⟨by decide, by decide⟩ d_law_0 (fun ad1 H hA hT hW hS => ?_)
  refine lv_dup hx hb d_law_3 rfl ?_
  refine hx_IA (i := 0) (As := []) (rest := [.ref (ad1 0)]) C hW hS hT (s_P_init n 0 hP) (m_P_init hP) (Or.inl km_law_9) kv_P_init kn_P kw_P_init kd_P_init rfl ⟨Nat.le_of_ble_eq_true rfl, Nat.le_of_ble_eq_true rfl⟩ (lb_le ⟨by omega, by omega⟩) rfl hl.1 rfl (Nat.le_of_ble_eq_true rfl) d_law_4 (fun ad2 H locs hA2 hT hW hS => ?_)
  have hD1 : gD S1 0 = true := (m_P_init hP).2.2 0 rfl
  rw [← hA2 0 rfl]
  refine lv_astore_n (lv' := [(1, .ref (ad2 0)), (0, .ref b)]) hx hb d_law_7 rfl hl (by decide) rfl (fun ls hl => ?_)
  refine hn_o (i := 200) C hW hS hT (hW.zl hD1) rfl q_M h200 (by decide) (fun _ => rfl) (S1 := sN S1 200 33) rfl kc_law_10 kt_M kn_M (lb_le ⟨by show gC S1 + 1 ≤ _; omega, by show gN S1 + 33 ≤ _; omega⟩) d_law_8 (fun ad3 H hA3 hT hW hS => ?_)
  have hl : lv_has ls 4 [(1, .ref (ad3 0)), (0, .ref b)] := by rw [hA3 0 hD1]; exact hl
  refine lv_dup hx hb d_law_11 rfl ?_
  have hD2 : gD (sN S1 200 33) 0 = true := (MN.nw rfl).2.2 0 hD1
  have hD3 : gD (sN S1 200 33) 200 = true := rfl
  refine hx_IA (i := 200) (As := []) (rest := [.ref (ad3 200)]) C hW hS hT (s_M_init 200 hM) (m_M_init hM) (Or.inl km_law_12) kv_M_init kn_M kw_M_init kd_M_init rfl ⟨Nat.le_of_ble_eq_true rfl, Nat.le_of_ble_eq_true rfl⟩ (lb_le hB2) rfl hl.1 rfl (Nat.le_of_ble_eq_true rfl) d_law_12 (fun ad4 H locs hA4 hT hW hS => ?_)
  have hl : lv_has ls 4 [(1, .ref (ad4 0)), (0, .ref b)] := by rw [hA4 0 hD2]; exact hl
  rw [← hA4 200 hD3]
  refine lv_astore_n (lv' := [(2, .ref (ad4 200)), (1, .ref (ad4 0)), (0, .ref b)]) hx hb d_law_15 rfl hl (by decide) rfl (fun ls hl => ?_)
  refine lv_iconst (v := 0) hx hb d_law_16 (by decide) ?_
  refine lv_istore_n (lv' := [(3, .int 0), (2, .ref (ad4 200)), (1, .ref (ad4 0)), (0, .ref b)]) hx hb d_law_17 rfl hl (by decide) rfl (fun ls hl => ?_)
  exact w_law_18 C hX hbl rfl n k 0 hlaw hB2 hT (hW.full hfull) hS (lv_sub hl [3, 2, 1, 0] rfl)
