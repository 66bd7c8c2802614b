-- the tree of nodes: pr j is the parent of j and one, 0 if there is none
def cnt (pr : Nat → Nat) (k : Nat) : Nat → Nat
  | 0 => 0
  | a + 1 => cnt pr k a + (if pr a = k + 1 then 1 else 0)
theorem cnt_cg {pr pr' : Nat → Nat} {k : Nat} : ∀ (a : Nat), (∀ j, j < a → pr' j = pr j) → cnt pr' k a = cnt pr k a
  | 0, _ => rfl
  | a + 1, h => by
    show cnt pr' k a + _ = cnt pr k a + _
    rw [cnt_cg a (fun j hj => h j (by omega)), h a (by omega)]
theorem cnt_no {pr : Nat → Nat} {k : Nat} : ∀ (a : Nat), (∀ j, j < a → pr j ≤ k) → cnt pr k a = 0
  | 0, _ => rfl
  | a + 1, h => by
    show cnt pr k a + _ = 0
    rw [cnt_no a (fun j hj => h j (by omega)), if_neg (by have := h a (by omega); omega)]
theorem cnt_to {pr : Nat → Nat} {k b : Nat} : ∀ (f : Nat), (∀ j, b ≤ j → j < b + f → pr j ≠ k + 1) → cnt pr k (b + f) = cnt pr k b
  | 0, _ => rfl
  | f + 1, h => by
    show cnt pr k (b + f) + (if pr (b + f) = k + 1 then 1 else 0) = _
    rw [cnt_to f (fun j h1 h2 => h j h1 (by omega)), if_neg (h (b + f) (by omega) (by omega)), Nat.add_zero]
def TR (pr al pt : Nat → Nat) (a : Nat) (os : List Nat) : Prop :=
  (∀ j, j < a → pr j ≤ j) ∧ (∀ k, k < a → pt k = cnt pr k a) ∧
  (∀ k, k < a → k ∉ os → 1 ≤ al k ∧ k + al k ≤ a ∧ (∀ j, k < j → j < k + al k → k < pr j) ∧ (∀ j, k + al k ≤ j → j < a → pr j ≤ k ∨ k + al k < pr j) ∧ ∀ t, t ∈ os → t < k ∨ k + al k ≤ t) ∧
  (∀ t, t ∈ os → t < a ∧ ∀ j, t < j → j < a → t < pr j) ∧ os.Pairwise (fun x y => y < x)
def prO : List Nat → Nat
  | [] => 0
  | t :: _ => t + 1
theorem TR.nil (pr al pt : Nat → Nat) : TR pr al pt 0 [] := ⟨fun j h => absurd h (by omega), fun j h => absurd h (by omega), fun j h => absurd h (by omega), fun t h => absurd h List.not_mem_nil, List.Pairwise.nil⟩
theorem prO_ge {os : List Nat} (h : os.Pairwise (fun x y => y < x)) {t : Nat} (ht : t ∈ os) : t < prO os := by
  cases os with
  | nil => exact absurd ht List.not_mem_nil
  | cons q os =>
    show t < q + 1
    rcases List.mem_cons.mp ht with rfl | h2
    · omega
    · have := (List.pairwise_cons.mp h).1 t h2; omega
theorem prO_cl {os : List Nat} {k e : Nat} (h : ∀ t, t ∈ os → t < k ∨ k + e ≤ t) : prO os ≤ k ∨ k + e < prO os := by
  cases os with
  | nil => exact Or.inl (Nat.zero_le _)
  | cons q os =>
    rcases h q (List.mem_cons_self ..) with h | h
    · exact Or.inl h
    · right
      show k + e < q + 1
      omega
theorem prO_le {os : List Nat} {a : Nat} (h : ∀ t, t ∈ os → t < a) : prO os ≤ a := by
  cases os with
  | nil => exact Nat.zero_le _
  | cons q os => exact h q (List.mem_cons_self ..)
theorem TR.pts {pr al pt pr' pt' : Nat → Nat} {a : Nat} {os : List Nat} (h : TR pr al pt a os) (hp : ∀ j, j < a → pr' j = pr j) (hpa : pr' a = prO os) (hn : ∀ j, j < a → pt' j = if j + 1 = prO os then pt j + 1 else pt j) (hna : pt' a = 0) : (∀ j, j < a + 1 → pr' j ≤ j) ∧ ∀ k, k < a + 1 → pt' k = cnt pr' k (a + 1) := by
  obtain ⟨h1, h2, h3, h4, h5⟩ := h
  have g1 : ∀ j, j < a + 1 → pr' j ≤ j := fun j hj => by
    by_cases e : j = a
    · rw [e, hpa]; exact prO_le (fun t ht => (h4 t ht).1)
    · rw [hp j (by omega)]; exact h1 j (by omega)
  refine ⟨g1, fun k hk => ?_⟩
  by_cases e : k = a
  · rw [e, hna, cnt_no (a + 1) (fun j hj => by have := g1 j hj; omega)]
  · show _ = cnt pr' k a + _
    rw [hn k (by omega), cnt_cg a hp, ← h2 k (by omega), hpa]
    by_cases e2 : k + 1 = prO os
    · rw [if_pos e2, if_pos e2.symm]
    · rw [if_neg e2, if_neg (fun q => e2 q.symm), Nat.add_zero]
theorem TR.cls {pr al pt pr' al' : Nat → Nat} {a k : Nat} {os : List Nat} (h : TR pr al pt a os) (hp : ∀ j, j < a → pr' j = pr j) (hpa : pr' a = prO os) (hk : k < a) (hko : k ∉ os) (hal : al' k = al k) : 1 ≤ al' k ∧ k + al' k ≤ a ∧ (∀ j, k < j → j < k + al' k → k < pr' j) ∧ (∀ j, k + al' k ≤ j → j < a + 1 → pr' j ≤ k ∨ k + al' k < pr' j) ∧ ∀ t, t ∈ os → t < k ∨ k + al' k ≤ t := by
  obtain ⟨c1, c2, c3, c4, c5⟩ := h.2.2.1 k hk hko
  rw [hal]
  refine ⟨c1, c2, fun j g1 g2 => ?_, fun j g1 g2 => ?_, c5⟩
  · rw [hp j (by omega)]; exact c3 j g1 g2
  · by_cases e : j = a
    · rw [e, hpa]; exact prO_cl c5
    · rw [hp j (by omega)]; exact c4 j g1 (by omega)
theorem TR.leaf {pr al pt pr' al' pt' : Nat → Nat} {a : Nat} {os : List Nat} (h : TR pr al pt a os) (hp : ∀ j, j < a → pr' j = pr j) (hpa : pr' a = prO os) (hl : ∀ j, j < a → al' j = al j) (hla : al' a = 1) (hn : ∀ j, j < a → pt' j = if j + 1 = prO os then pt j + 1 else pt j) (hna : pt' a = 0) : TR pr' al' pt' (a + 1) os := by
  obtain ⟨g1, g2⟩ := h.pts hp hpa hn hna
  refine ⟨g1, g2, fun k hk hko => ?_, fun t ht => ?_, h.2.2.2.2⟩
  · by_cases e : k = a
    · subst e
      rw [hla]
      exact ⟨Nat.le_refl _, Nat.le_refl _, fun j q1 q2 => absurd q1 (by omega), fun j q1 q2 => absurd q1 (by omega), fun t ht => Or.inl (h.2.2.2.1 t ht).1⟩
    · obtain ⟨c1, c2, c3, c4, c5⟩ := h.cls hp hpa (show k < a by omega) hko (hl k (by omega))
      exact ⟨c1, by omega, c3, c4, c5⟩
  · obtain ⟨b1, b2⟩ := h.2.2.2.1 t ht
    refine ⟨by omega, fun j q1 q2 => ?_⟩
    by_cases e : j = a
    · rw [e, hpa]; exact prO_ge h.2.2.2.2 ht
    · rw [hp j (by omega)]; exact b2 j q1 (by omega)
theorem TR.opn {pr al pt pr' al' pt' : Nat → Nat} {a : Nat} {os : List Nat} (h : TR pr al pt a os) (hp : ∀ j, j < a → pr' j = pr j) (hpa : pr' a = prO os) (hl : ∀ j, j < a → al' j = al j) (hn : ∀ j, j < a → pt' j = if j + 1 = prO os then pt j + 1 else pt j) (hna : pt' a = 0) : TR pr' al' pt' (a + 1) (a :: os) := by
  obtain ⟨g1, g2⟩ := h.pts hp hpa hn hna
  refine ⟨g1, g2, fun k hk hko => ?_, fun t ht => ?_, List.pairwise_cons.mpr ⟨fun t ht => (h.2.2.2.1 t ht).1, h.2.2.2.2⟩⟩
  · have e : k ≠ a := fun q => hko (by rw [q]; exact List.mem_cons_self ..)
    obtain ⟨c1, c2, c3, c4, c5⟩ := h.cls hp hpa (show k < a by omega) (fun q => hko (List.mem_cons_of_mem _ q)) (hl k (by omega))
    refine ⟨c1, by omega, c3, c4, fun t ht => ?_⟩
    rcases List.mem_cons.mp ht with rfl | ht
    · exact Or.inr c2
    · exact c5 t ht
  · rcases List.mem_cons.mp ht with rfl | ht
    · exact ⟨by omega, fun j q1 q2 => absurd q1 (by omega)⟩
    · obtain ⟨b1, b2⟩ := h.2.2.2.1 t ht
      refine ⟨by omega, fun j q1 q2 => ?_⟩
      by_cases e : j = a
      · rw [e, hpa]; exact prO_ge h.2.2.2.2 ht
      · rw [hp j (by omega)]; exact b2 j q1 (by omega)
theorem TR.cl {pr al pt al' : Nat → Nat} {a t : Nat} {os : List Nat} (h : TR pr al pt a (t :: os)) (hla : al' t = a - t) (hl : ∀ j, j ≠ t → al' j = al j) : TR pr al' pt a os := by
  obtain ⟨h1, h2, h3, h4, h5⟩ := h
  obtain ⟨t1, t2⟩ := h4 t (List.mem_cons_self ..)
  have h5' := List.pairwise_cons.mp h5
  refine ⟨h1, h2, fun k hk hko => ?_, fun t' ht => h4 t' (List.mem_cons_of_mem _ ht), h5'.2⟩
  by_cases e : k = t
  · subst e
    rw [hla, show k + (a - k) = a by omega]
    exact ⟨by omega, Nat.le_refl _, fun j q1 q2 => t2 j q1 q2, fun j q1 q2 => absurd q1 (by omega), fun t' ht => Or.inl (h5'.1 t' ht)⟩
  · obtain ⟨c1, c2, c3, c4, c5⟩ := h3 k hk (fun q => (List.mem_cons.mp q).elim e hko)
    rw [hl k e]
    exact ⟨c1, c2, c3, c4, fun t' ht => c5 t' (List.mem_cons_of_mem _ ht)⟩
-- what the model counts
def pI (q : Nat) : Int32 := nI q - 1
theorem pI_s (q : Nat) : pI (q + 1) = nI q := nI_pred q
theorem pI_lt {q k : Nat} (hq : q < 2 ^ 31) (hk : k < 2 ^ 31) : pI q < nI k ↔ q ≤ k := by
  cases q with
  | zero =>
    refine ⟨fun _ => Nat.zero_le _, fun _ => ?_⟩
    show (-1 : Int32) < nI k
    rw [Int32.lt_iff_toInt_lt, nI_toInt hk]
    have : (-1 : Int32).toInt = -1 := rfl
    omega
  | succ q => rw [pI_s, nI_ltI (by omega) hk]; omega
theorem pI_eq {q k : Nat} (hq : q < 2 ^ 31) (hk : k < 2 ^ 31) : pI q = nI k ↔ q = k + 1 := by
  cases q with
  | zero =>
    refine ⟨fun h => ?_, fun h => absurd h (by omega)⟩
    have : (-1 : Int32).toInt = (nI k).toInt := congrArg Int32.toInt (show (-1 : Int32) = nI k from h)
    rw [nI_toInt hk] at this
    have e : (-1 : Int32).toInt = -1 := rfl
    omega
  | succ q => rw [pI_s, nI_eq (by omega) hk]; omega
theorem within_loop {M : HS} {pr : Nat → Nat} {a k e : Nat} (x2 : Int32) (hx : x2 = 0 ∨ x2 = 1) (hM : ∀ j, j < a → gF M 221 j = pI (pr j)) (h19 : gF M 200 19 = nI a) (ha : a ≤ 4000) (hk : k < a) (he : k + e ≤ a) (hpr : ∀ j, j < a → pr j ≤ j) (hin : ∀ j, k < j → j < k + e → k < pr j) (hout : k + e < a → pr (k + e) ≤ k) :
    ∀ (f j m : Nat), k < j → j ≤ k + e → k + e - j < f → f_M_within_b7 FU f (nI k) x2 (nI m) (nI j) M = some (if x2 = 0 then nI (m + (k + e - j)) else nI (m + (cnt pr k (k + e) - cnt pr k j)))
  | 0, j, m, _, _, h => absurd h (by omega)
  | f + 1, j, m, h1, h2, hf => by
    show f_M_within_b7B FU (f_M_within_b7 FU f) (nI k) x2 (nI m) (nI j) M = _
    unfold f_M_within_b7B
    rw [h19]
    by_cases ea : j = a
    · rw [if_pos (by rw [ea]; exact Int32.le_refl _), show k + e = j by omega, Nat.sub_self, Nat.sub_self, Nat.add_zero]
      split <;> rfl
    · have hja : j < a := by omega
      rw [if_neg (nI_ge hja (by omega)), gd_pos (in_n (by omega) (by decide))]
      simp only [cl_n (show j < 2 ^ 31 by omega), hM j hja]
      have hpj := hpr j hja
      by_cases ee : j = k + e
      · rw [if_pos ((pI_lt (by omega) (by omega)).mpr (by rw [ee]; exact hout (by omega))), ee, Nat.sub_self, Nat.sub_self, Nat.add_zero]
        split <;> rfl
      · have hkp := hin j h1 (by omega)
        rw [if_neg (fun q => by have := (pI_lt (by omega) (by omega)).mp q; omega)]
        rcases hx with rfl | rfl
        · rw [if_pos rfl]
          unfold f_M_within_b43 f_M_within_b48
          rw [lt_e, lt_e, nI_1, nI_1, within_loop 0 (Or.inl rfl) hM h19 ha hk he hpr hin hout f (j + 1) (m + 1) (by omega) (by omega) (by omega), if_pos rfl, if_pos rfl, show m + 1 + (k + e - (j + 1)) = m + (k + e - j) by omega]
        · rw [if_neg (by decide), gd_pos (in_n (by omega) (by decide))]
          have hc : cnt pr k (j + 1) = cnt pr k j + (if pr j = k + 1 then 1 else 0) := rfl
          have hm : ∀ (f j : Nat), cnt pr k j ≤ cnt pr k (j + f) := by
            intro f
            induction f with
            | zero => intro j; exact Nat.le_refl _
            | succ f ih => intro j; exact Nat.le_trans (ih j) (Nat.le_add_right _ _)
          have hle := hm (k + e - (j + 1)) (j + 1)
          rw [show j + 1 + (k + e - (j + 1)) = k + e by omega] at hle
          by_cases eq : pr j = k + 1
          · rw [if_pos ((pI_eq (by omega) (by omega)).mpr eq)]
            unfold f_M_within_b43 f_M_within_b48
            rw [lt_e, lt_e, nI_1, nI_1, within_loop 1 (Or.inr rfl) hM h19 ha hk he hpr hin hout f (j + 1) (m + 1) (by omega) (by omega) (by omega), if_neg (by decide), if_neg (by decide)]
            rw [if_pos eq] at hc
            rw [show m + 1 + (cnt pr k (k + e) - cnt pr k (j + 1)) = m + (cnt pr k (k + e) - cnt pr k j) by omega]
          · rw [if_neg (fun q => eq ((pI_eq (by omega) (by omega)).mp q))]
            unfold f_M_within_b48
            rw [if_neg eq] at hc
            rw [lt_e, lt_e, nI_1, show nI m + 0 = nI m from Int32.add_zero _, within_loop 1 (Or.inr rfl) hM h19 ha hk he hpr hin hout f (j + 1) m (by omega) (by omega) (by omega), if_neg (by decide), if_neg (by decide), hc, Nat.add_zero]
theorem within_e {M : HS} {pr al pt : Nat → Nat} {a k : Nat} {x2 : Int32} (hx : x2 = 0 ∨ x2 = 1) (h : TR pr al pt a []) (hM : ∀ j, j < a → gF M 221 j = pI (pr j)) (h19 : gF M 200 19 = nI a) (ha : a ≤ 4000) (hk : k < a) : f_M_within FU (nI k) x2 M = some (if x2 = 0 then nI (al k - 1) else nI (pt k)) := by
  obtain ⟨h1, h2, h3, -, -⟩ := h
  obtain ⟨c1, c2, c3, c4, -⟩ := h3 k hk List.not_mem_nil
  unfold f_M_within
  have := within_loop x2 hx hM h19 ha hk c2 h1 c3 (fun q => by
    rcases c4 (k + al k) (Nat.le_refl _) q with z | z
    · exact z
    · have := h1 (k + al k) q; omega) FU (k + 1) 0 (by omega) (by omega) (by show _ < 10000; omega)
  rw [lt_e, lt_e, nI_1, show (0 : Int32) = nI 0 from rfl, this]
  have e1 : cnt pr k (k + 1) = 0 := cnt_no (k + 1) (fun j hj => by have := h1 j (by omega); omega)
  have e2 : cnt pr k a = cnt pr k (k + al k) := by
    have := cnt_to (pr := pr) (k := k) (b := k + al k) (a - (k + al k)) (fun j g1 g2 => by rcases c4 j g1 (by omega) with z | z <;> omega)
    rw [show k + al k + (a - (k + al k)) = a by omega] at this
    exact this
  rw [h2 k hk, e2, e1, Nat.zero_add, Nat.zero_add, Nat.sub_zero, show k + al k - (k + 1) = al k - 1 by omega]
  rfl
