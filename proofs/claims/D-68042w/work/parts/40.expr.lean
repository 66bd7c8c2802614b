-- what the model expects behind a word
def pushAll (o : Int32) : List Nat → HS → Option HS
  | [], M => some M
  | w :: ws, M => ob (f_M_push (nI w) o M) (pushAll o ws)
theorem pushAll_e {o : Int32} : ∀ (ws : List Nat) {M : HS} {l : List (Nat × Int32)}, Due M l → gF M 200 31 = nI l.length → l.length + ws.length ≤ 33000 → (∀ w, w ∈ ws → w < 128) → ∃ M', pushAll o ws M = some M' ∧ Due M' ((ws.reverse.map (fun w => (w, o))) ++ l) ∧ gF M' 200 31 = nI (l.length + ws.length) ∧ (∀ i k, i ≠ 229 → i ≠ 230 → ¬ (i = 200 ∧ k = 31) → gF M' i k = gF M i k) ∧ (∀ i k, gL M' i k = gL M i k) ∧ (∀ i k, gX M' i k = gX M i k) ∧ M'.2.2.2 = M.2.2.2
  | [], M, l, hD, hd, _, _ => ⟨M, rfl, hD, hd, fun _ _ _ _ _ => rfl, fun _ _ => rfl, fun _ _ => rfl, rfl⟩
  | w :: ws, M, l, hD, hd, hl, hw => by
    rw [List.length_cons] at hl
    obtain ⟨M1, e1, d1, c1, f1, f2, f3, f4⟩ := M_push_e (w := w) (o := o) hD hd (by omega) (hw w (List.mem_cons_self ..))
    obtain ⟨M', e2, d2, c2, g1, g2, g3, g4⟩ := pushAll_e ws (M := M1) (l := (w, o) :: l) d1 c1 (by rw [List.length_cons]; omega) (fun x hx => hw x (List.mem_cons_of_mem _ hx))
    refine ⟨M', ?_, ?_, ?_, fun i k a b c => (g1 i k a b c).trans (f1 i k a b c), fun i k => (g2 i k).trans (f2 i k), fun i k => (g3 i k).trans (f3 i k), g4.trans f4⟩
    · show ob (f_M_push (nI w) o M) (pushAll o ws) = _
      rw [e1, ob_s, e2]
    · rw [List.reverse_cons, List.map_append, List.append_assoc]
      exact d2
    · rw [c2, List.length_cons, List.length_cons, show l.length + 1 + ws.length = l.length + (ws.length + 1) by omega]
theorem expect_r {M : HS} {a κ : Nat} (h1 : 3 ≤ κ) (h2 : κ < 24) (ha : a < 8192) (h : gF M 220 a = nI κ) : f_M_expect (nI a) M = pushAll (nI a) (rr κ 0).reverse M := by
  unfold f_M_expect
  rw [gd_pos (in_n ha (by decide)), cl_n (by omega), h, lt_e]
  have : κ = 3 ∨ κ = 4 ∨ κ = 5 ∨ κ = 6 ∨ κ = 7 ∨ κ = 8 ∨ κ = 9 ∨ κ = 10 ∨ κ = 11 ∨ κ = 12 ∨ κ = 13 ∨ κ = 14 ∨ κ = 15 ∨ κ = 16 ∨ κ = 17 ∨ κ = 18 ∨ κ = 19 ∨ κ = 20 ∨ κ = 21 ∨ κ = 22 ∨ κ = 23 := by omega
  rcases this with rfl | rfl | rfl | rfl | rfl | rfl | rfl | rfl | rfl | rfl | rfl | rfl | rfl | rfl | rfl | rfl | rfl | rfl | rfl | rfl | rfl
  all_goals rfl
theorem expect_e {M : HS} {a κ : Nat} {l : List (Nat × Int32)} (h1 : 3 ≤ κ) (h2 : κ < 24) (ha : a < 8192) (h : gF M 220 a = nI κ) (hD : Due M l) (hd : gF M 200 31 = nI l.length) (hl : l.length ≤ 32000) : ∃ M', f_M_expect (nI a) M = some M' ∧ Due M' (row a κ 0 ++ l) ∧ gF M' 200 31 = nI (row a κ 0 ++ l).length ∧ (∀ i k, i ≠ 229 → i ≠ 230 → ¬ (i = 200 ∧ k = 31) → gF M' i k = gF M i k) ∧ (∀ i k, gL M' i k = gL M i k) ∧ (∀ i k, gX M' i k = gX M i k) ∧ M'.2.2.2 = M.2.2.2 := by
  have h9 := tb_len κ h2 0
  have hw : ∀ κ, κ < 24 → ∀ w, w ∈ (rr κ 0).reverse → w < 128 := by
    have : ∀ κ, κ < 24 → (rr κ 0).reverse.all (fun w => decide (w < 128)) = true := by decide +kernel
    exact fun κ hκ w hw => of_decide_eq_true (List.all_eq_true.mp (this κ hκ) w hw)
  obtain ⟨M', e, d, c, f⟩ := pushAll_e (o := nI a) (rr κ 0).reverse hD hd (by rw [List.length_reverse]; omega) (hw κ h2)
  refine ⟨M', (expect_r h1 h2 ha h).trans e, ?_, ?_, f⟩
  · rw [List.reverse_reverse] at d
    exact d
  · rw [c, List.length_append, List.length_reverse]
    unfold row
    rw [List.length_map, Nat.add_comm]
-- kinds behind a word
def kOf (st : Int32) (T : Nat → Int32) (n p : Nat) : Int32 := if st = 0 then mwC T n p else mwS T n p
def KV (v : Int32) : Prop := v = -1 ∨ ∃ κ, 3 ≤ κ ∧ κ < 24 ∧ v = nI κ
theorem kv (κ : Nat) (h : 3 ≤ κ ∧ κ < 24) : KV (nI κ) := Or.inr ⟨κ, h.1, h.2, rfl⟩
theorem ite_P {α : Type} {P : α → Prop} {c : Prop} [Decidable c] {a b : α} (ha : P a) (hb : P b) : P (if c then a else b) := by
  split
  · exact ha
  · exact hb
theorem kwS_v (w : Int64) : KV (kwS w) := ite_P (P := KV) (kv 3 (by decide)) (ite_P (P := KV) (kv 4 (by decide)) (ite_P (P := KV) (kv 5 (by decide)) (ite_P (P := KV) (kv 6 (by decide)) (ite_P (P := KV) (kv 7 (by decide)) (ite_P (P := KV) (kv 8 (by decide)) (ite_P (P := KV) (kv 9 (by decide)) (ite_P (P := KV) (kv 10 (by decide)) (ite_P (P := KV) (kv 11 (by decide)) (ite_P (P := KV) (kv 12 (by decide)) (ite_P (P := KV) (kv 13 (by decide)) (ite_P (P := KV) (kv 14 (by decide)) (ite_P (P := KV) (kv 15 (by decide)) (ite_P (P := KV) (kv 16 (by decide)) (ite_P (P := KV) (kv 17 (by decide)) (Or.inl rfl)))))))))))))))
theorem kwC_v (w : Int64) : KV (kwC w) := ite_P (P := KV) (kv 18 (by decide)) (ite_P (P := KV) (kv 19 (by decide)) (ite_P (P := KV) (kv 20 (by decide)) (ite_P (P := KV) (kv 21 (by decide)) (ite_P (P := KV) (kv 22 (by decide)) (ite_P (P := KV) (kv 23 (by decide)) (Or.inl rfl))))))
theorem kOf_v (st : Int32) (T : Nat → Int32) (n p : Nat) : kOf st T n p = -1 ∨ (tkS T n p = 2 ∧ ∃ κ, 3 ≤ κ ∧ κ < 24 ∧ kOf st T n p = nI κ) := by
  unfold kOf mwC mwS
  by_cases ht : tkS T n p = 2
  · simp only [ht, if_true, true_and]
    split
    · exact kwC_v _
    · exact kwS_v _
  · simp only [ht, if_false, ite_self, true_or]
theorem C_kind {C : HS} {T : Nat → Int32} {n p : Nat} {st x2 x3 : Int32} (hst : st = 0 ∨ st = 1) (h : CV C T n p) : (ob (gX C 1 3) fun j9 => gd (isSo j9 ∧ isSo 502) (if j9 = 502 then ob (f_P_kindOf FU (gL C 1 5) st) fun r11 => f_P_expression_b56 FU x2 x3 r11 C else f_P_expression_b56 FU x2 x3 (-1 : Int32) C)) = f_P_expression_b56 FU x2 x3 (kOf st T n p) C := by
  obtain ⟨hx, hs⟩ := h.so
  rw [hx, ob_s, gd_pos ⟨hs, by decide⟩]
  unfold kOf mwC mwS
  by_cases e : tkS T n p = 2
  · rw [if_pos (by omega), h.2.2.2.2.2.2.2.1 e]
    rcases hst with rfl | rfl
    · rw [kindOf0_e, ob_s, if_pos rfl, if_pos e]
    · rw [kindOf1_e, ob_s, if_neg (by decide), if_pos e]
  · rw [if_neg (by omega), if_neg e, if_neg e, ite_self]
