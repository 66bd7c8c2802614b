-- the law's loop: one state serves both
theorem RS.m {C M M' : HS} {n : Nat} (H : RS C M n) (k : GC M M') : RS C M' n := by
  obtain ⟨hn, h1, h2, hT, ⟨a, h, g, pr, al, pt, d, hR, ha⟩, h7, h8⟩ := H
  exact ⟨hn, h1, (k 200 2 (by decide) (by decide)).1.trans h2, fun j hj => (k 201 j (by decide) (by decide)).1.trans (hT j hj), ⟨a, h, g, pr, al, pt, d, hR.cg (fun _ _ _ => rfl) (fun _ _ _ => rfl) (fun _ _ _ => rfl) rfl (fun i x q => (k i x (by omega) (by omega)).1) (fun i x q => (k i x (by omega) (by omega)).2), ha⟩, by rw [(k 200 3 (by decide) (by decide)).1, h7], by rw [(k 200 4 (by decide) (by decide)).1, h8]⟩
theorem RS.c {C C' M : HS} {n : Nat} (H : RS C M n) (k : ∀ i q, ¬ (200 ≤ i ∧ i ≤ 230) → gF C' i q = gF C i q ∧ gL C' i q = gL C i q) (kX : ∀ i q, gX C' i q = gX C i q) (kD : C'.2.2.2 = C.2.2.2) : RS C' M n := by
  obtain ⟨hn, h1, h2, hT, ⟨a, h, g, pr, al, pt, d, hR, ha⟩, h7, h8⟩ := H
  have hd := hR.2.2.2.2.1
  exact ⟨hn, (k 1 1 (by omega)).1.trans h1, h2, fun j hj => by rw [(k 2 j (by omega)).1, hT j hj], ⟨a, h, g, pr, al, pt, d, hR.cg (fun i x q => (k i x (by omega)).1) (fun i x q => (k i x (by omega)).2) (fun i x _ => kX i x) kD (fun _ _ _ => rfl) (fun _ _ _ => rfl), ha⟩, by rw [(k 0 7 (by omega)).1, h7], by rw [(k 0 8 (by omega)).1, h8]⟩
theorem RS.one {S : HS} {n : Nat} (H : RS S S n) : RS (sF S 200 0 0) (sF S 200 0 0) n := H.thr.c (fun i q h => ⟨by rw [rFi (by omega)], rfl⟩) (fun _ _ => rfl) rfl
theorem LAW {xs : Nat → Int32} {L : Nat} (hL : L ≤ 256) : ∀ (k t n : Nat) (S : HS), RS S S n → n ≤ 8 * t → (4 * t ≤ L ∨ t = 0) → L + 4 ≤ 4 * (t + k) → f_law_b18 FU xs L k (nI (4 * t)) S = some 1
  | 0, t, n, S, _, _, h1, h2 => absurd h1 (by omega)
  | k + 1, t, n, S, H, hn, h1, h2 => by
    show f_law_b18B FU xs L (f_law_b18 FU xs L k) (nI (4 * t)) S = some 1
    unfold f_law_b18B
    have hc : (nI L - 4 < nI (4 * t)) ↔ L < 4 * t + 4 := by
      rw [Int32.lt_iff_toInt_lt, show (4 : Int32) = nI 4 from rfl, pk_sub_toInt (by omega) (by decide), nI_toInt (by omega)]
      omega
    by_cases hend : L < 4 * t + 4
    · rw [if_pos (hc.mpr hend)]
    · rw [if_neg (fun q => hend (hc.mp q))]
      have go : ∀ (n' : Nat) (S' : HS), RS S' S' n' → n' ≤ 8 * (t + 1) → f_law_b388 FU xs L (f_law_b18 FU xs L k) (nI (4 * t)) S' = some 1 := fun n' S' H' hn' => by
        unfold f_law_b388
        rw [lt_e, show (4 : Int32) = nI 4 from rfl, nI_add, show 4 * t + 4 = 4 * (t + 1) by omega]
        exact LAW hL k (t + 1) n' S' H' hn' (Or.inl (by omega)) (by omega)
      have i1 : nI (4 * t) + 1 = nI (4 * t + 1) := nI_1 _
      have i2 : nI (4 * t) + 2 = nI (4 * t + 2) := nI_add _ 2
      have i3 : nI (4 * t) + 3 = nI (4 * t + 3) := nI_add _ 3
      simp only [i1, i2, i3, cl_n (show 4 * t < 2 ^ 31 by omega), cl_n (show 4 * t + 1 < 2 ^ 31 by omega), cl_n (show 4 * t + 2 < 2 ^ 31 by omega), cl_n (show 4 * t + 3 < 2 ^ 31 by omega), gd_pos (in_n (show 4 * t < L by omega) (by omega)), gd_pos (in_n (show 4 * t + 1 < L by omega) (by omega)), gd_pos (in_n (show 4 * t + 2 < L by omega) (by omega)), gd_pos (in_n (show 4 * t + 3 < L by omega) (by omega))]
      by_cases q0 : xs (4 * t) &&& 15 = 0
      · rw [if_pos q0]
        generalize (xs (4 * t + 1)).toInt64 <<< ((32 : Int32).toInt64 &&& 63) ||| (xs (4 * t + 2)).toInt64 &&& 4294967295 = v
        obtain ⟨r, S5, M0, n0, e1, -, hn0, gc, -⟩ := GIVE H (by omega) v (xs (4 * t + 3))
        obtain ⟨r', C', M', n', e2, e3, hn', -, gm, gx, gd3, -, -, H'⟩ := GIVE (H.m gc) (by omega) v (xs (4 * t + 3))
        have ee := e1.symm.trans e2
        injection ee with ee
        injection ee with er ec
        subst er
        subst ec
        rw [e1, ob2_s, e3, ob2_s, if_pos rfl]
        exact go n' M' (H'.c gm gx gd3) (by omega)
      rw [if_neg q0]
      by_cases q1 : xs (4 * t) &&& 15 = 1
      · rw [if_pos q1]
        have H1 := H.m (M' := sF S 1 1 0) (GC.sF (by decide))
        obtain ⟨e1, e2, H2⟩ := WIPE H1
        rw [e1, ob_s, e2, ob_s]
        exact go 0 _ (H2.c (fun i q h => ⟨by rw [rFi (by omega), rFi (by omega)], rfl⟩) (fun _ _ => rfl) rfl) (by omega)
      rw [if_neg q1]
      by_cases q2 : xs (4 * t) &&& 15 = 2
      · rw [if_pos q2]
        obtain ⟨r, S14, M0, e1, -, gc, -, -⟩ := READ H
        obtain ⟨r', C', M', e2, e3, -, gm, H'⟩ := READ (H.m gc)
        have ee := e1.symm.trans e2
        injection ee with ee
        injection ee with er ec
        subst er
        subst ec
        have hg : gC S14 ≤ 600000 ∧ gN S14 ≤ 7302249 := by
          obtain ⟨-, -, -, -, ⟨a, h, g, pr, al, pt, d, hR, ha⟩, -, -⟩ := H'
          have hb := hR.1
          obtain ⟨-, -, -, -, -, x1, x2⟩ := hR.2.1.1
          omega
        rw [e1, ob2_s, gd_pos hg, e3, ob2_s, if_pos rfl]
        exact go n M' (H'.c (fun i q h => gm.1 i q (by omega)) gm.2.2.1 gm.2.2.2) (by omega)
      rw [if_neg q2]
      by_cases q3 : xs (4 * t) &&& 15 = 3
      · rw [if_pos q3]
        obtain ⟨r, e1, e2⟩ := DEFN H (xs (4 * t + 1)) (xs (4 * t + 2))
        rw [e1, ob_s, e2, ob2_s, if_pos rfl]
        exact go n _ H.one (by omega)
      rw [if_neg q3]
      by_cases q4 : xs (4 * t) &&& 15 = 4
      · rw [if_pos q4]
        obtain ⟨r, e1, e2⟩ := TITLE H (xs (4 * t + 1)) (xs (4 * t + 2))
        rw [e1, ob_s, e2, ob2_s, if_pos ((lg_cmp_eq _ _).mpr rfl)]
        exact go n _ H.one (by omega)
      rw [if_neg q4]
      by_cases q5 : xs (4 * t) &&& 15 = 5
      · rw [if_pos q5]
        obtain ⟨r, e1, e2⟩ := PARQ H (xs (4 * t + 1)) (xs (4 * t + 2))
        rw [e1, ob_s, e2, ob2_s, if_pos rfl]
        exact go n _ H.one (by omega)
      rw [if_neg q5]
      by_cases q6 : xs (4 * t) &&& 15 = 6
      · rw [if_pos q6]
        obtain ⟨r, e1, e2⟩ := NODEQ H (xs (4 * t + 1)) (xs (4 * t + 2))
        rw [e1, ob_s, e2, ob2_s, if_pos rfl]
        exact go n _ H.one (by omega)
      rw [if_neg q6]
      by_cases q7 : xs (4 * t) &&& 15 = 7
      · rw [if_pos q7]
        obtain ⟨r, e1, e2⟩ := NAMEQ H (xs (4 * t + 1)) (xs (4 * t + 2))
        rw [e1, ob_s, e2, ob2_s, if_pos ((lg_cmp_eq _ _).mpr rfl)]
        exact go n _ H.one (by omega)
      rw [if_neg q7]
      by_cases q8 : xs (4 * t) &&& 15 = 8
      · rw [if_pos q8]
        obtain ⟨r, e1, e2⟩ := NUMQ H (xs (4 * t + 1))
        rw [e1, ob_s, e2, ob2_s, if_pos rfl]
        exact go n _ H.one (by omega)
      rw [if_neg q8]
      by_cases q9 : xs (4 * t) &&& 15 = 9
      · rw [if_pos q9]
        obtain ⟨r, e1, e2⟩ := LOOK H (xs (4 * t + 1))
        rw [e1, ob_s, e2, ob2_s, if_pos rfl]
        exact go n _ H.one (by omega)
      rw [if_neg q9]
      exact go n S H (by omega)
