-- an expression that is whole at once
def LF (C C' : HS) (a po : Nat) (κ pl v fp vl : Int32) (w : Int64) : Prop :=
  gF C' 0 2 = nI (a + 1) ∧
  (gF C' (1000 + 2 * a) 0 = κ ∧ gF C' (1000 + 2 * a) 1 = 0 ∧ gF C' (1000 + 2 * a) 2 = 1 ∧ gF C' (1000 + 2 * a) 3 = pl ∧ gF C' (1000 + 2 * a) 4 = pI po ∧ gF C' (1000 + 2 * a) 5 = v ∧ gF C' (1000 + 2 * a) 8 = fp ∧ gF C' (1000 + 2 * a) 9 = -1 ∧ gF C' (1000 + 2 * a) 10 = vl ∧ gL C' (1000 + 2 * a) 6 = w ∧ gL C' (1000 + 2 * a) 7 = 0) ∧
  (∀ i k, i ≠ 1 → i ≠ 1000 + 2 * a → ¬ (i = 0 ∧ k = 2) → ¬ (0 < po ∧ i = 998 + 2 * po ∧ k = 1) → gF C' i k = gF C i k) ∧
  (0 < po → gF C' (998 + 2 * po) 1 = gF C (998 + 2 * po) 1 + 1) ∧
  (∀ i k, i ≠ 1 → i ≠ 1000 + 2 * a → gL C' i k = gL C i k) ∧ (∀ i k, i ≠ 1 → i ≠ 3 → i ≠ 1000 + 2 * a → gX C' i k = gX C i k) ∧ gF C' 1 1 = gF C 1 1
theorem BG.cv {C C' : HS} {a po n p : Nat} {κ pl v : Int32} {T : Nat → Int32} (h : BG C C' a po κ pl v) (hC : CV C T n p) : CV C' T n p := by
  obtain ⟨b1, b2, b3, b4, b5, b6⟩ := h
  exact hC.cg (fun k => b3 1 k (by omega) (by omega) (by omega)) (fun k => b3 2 k (by omega) (by omega) (by omega)) (fun k => b5 1 k (by omega)) (fun k => b6 1 k (by decide) (by omega))
theorem C_leaf {C : HS} {T : Nat → Int32} {n p h g a dp po κ v : Nat} (hC : CV C T n p) (hP : PL C h g) (ha : gF C 0 2 = nI a) (hah : a ≤ h) (h4 : h < 4200) (hd : gF C 0 6 = nI dp) (hdp : dp ≤ 4200) (ho : (dp = 0 ∧ po = 0) ∨ (∃ d q, dp = d + 1 ∧ po = q + 1 ∧ d < g ∧ gF C (1001 + 2 * d) 0 = nI q ∧ q < a)) (hκ : κ = 0 ∨ κ = 1 ∨ κ = 2) (hs0 : κ = 0 → tkS T n p = 3) (hs1 : κ = 1 → tkS T n p = 2) :
    ∃ C' h', f_P_expression_b238 FU (nI v) (nI (sk T n p)) (nI κ) C = some C' ∧ CV C' T n (tkE T n p) ∧ PL C' h' g ∧ a < h' ∧ (h' = h ∨ h' = a + 1) ∧ LF C C' a po (nI κ) (nI (sk T n p)) (nI v) (if κ = 1 then nI (sk T n p) else -1) (if κ = 0 then tkV T n p else 0) (if κ = 1 then tkW T n p else 0) := by
  obtain ⟨C1, h', e1, P1, a1, hh, bg⟩ := P_begin_e (κ := nI κ) (pl := nI (sk T n p)) (v := nI v) hP ha hah h4 hd hdp ho
  have c1 := bg.cv hC
  obtain ⟨b1, ⟨n0, n1, n2, n3, n4, n5, n8, n9, n10, m6, m7⟩, b3, b4, b5, b6⟩ := bg
  unfold f_P_expression_b238
  rw [e1, ob2_s]
  unfold f_P_expression_b243 f_P_expression_b266 f_P_expression_b291 f_P_expression_b310
  have z1 : (1 : Nat) ≠ 1000 + 2 * a := by omega
  simp only [gdN P1 a1, d3F, d3L, d3r, lt_e, rFk (show (0 : Nat) ≠ 10 by decide), rFk (show (0 : Nat) ≠ 8 by decide), rFL, n0]
  have v6 : κ = 0 → gF C1 1 6 = tkV T n p := fun q => c1.2.2.2.2.2.2.2.2 (hs0 q)
  have v5 : κ = 1 → gL C1 1 5 = tkW T n p := fun q => c1.2.2.2.2.2.2.2.1 (hs1 q)
  have key : ∀ (x : Int32) (y : Int64) (z : Int32), ∃ C', (ob (f_X_next FU (sF (sL (sF C1 (1000 + 2 * a) 10 x) (1000 + 2 * a) 6 y) (1000 + 2 * a) 8 z)) fun S55 => some S55) = some C' ∧ CV C' T n (tkE T n p) ∧ PL C' h' g ∧ LF C C' a po (nI κ) (nI (sk T n p)) (nI v) z x y := by
    intro x y z
    have c2 : CV (sF (sL (sF C1 (1000 + 2 * a) 10 x) (1000 + 2 * a) 6 y) (1000 + 2 * a) 8 z) T n p := c1.cg (fun k => by rw [rFi z1, rFL, rFi z1]) (fun k => by rw [rFi (by omega), rFL, rFi (by omega)]) (fun k => by rw [rLF, rLi z1, rLF]) (fun k => rfl)
    obtain ⟨C', e2, c3, fr⟩ := C_next c2
    rw [e2, ob_s]
    have q1 : ∀ k, k ≠ 8 → k ≠ 10 → gF C' (1000 + 2 * a) k = gF C1 (1000 + 2 * a) k := fun k h8 h10 => by rw [(fr.1 _ _ (by omega)).1, rFk h8, rFL, rFk h10]
    refine ⟨C', rfl, c3, P1.cg (fun k => (fr.1 3 k (by decide)).2.2) (fun k => (fr.1 5 k (by decide)).2.2) fr.2.2.2, ?_, ⟨(q1 0 (by decide) (by decide)).trans n0, (q1 1 (by decide) (by decide)).trans n1, (q1 2 (by decide) (by decide)).trans n2, (q1 3 (by decide) (by decide)).trans n3, (q1 4 (by decide) (by decide)).trans n4, (q1 5 (by decide) (by decide)).trans n5, ?_, (q1 9 (by decide) (by decide)).trans n9, ?_, ?_, ?_⟩, fun i k g1 g2 g3 g4 => ?_, fun q => ?_, fun i k g1 g2 => ?_, fun i k g1 g2 g3 => ?_, ?_⟩
    · rw [(fr.1 0 2 (by decide)).1, rFi (by omega), rFL, rFi (by omega), b1]
    · rw [(fr.1 _ _ (by omega)).1, rFy]
    · rw [(fr.1 _ _ (by omega)).1, rFk (by decide), rFL, rFy]
    · rw [(fr.1 _ _ (by omega)).2.1, rLF, rLy]
    · rw [(fr.1 _ _ (by omega)).2.1, rLF, rLk (by decide), rLF, m7]
    · rw [(fr.1 _ _ g1).1, rFi g2, rFL, rFi g2, b3 i k g2 g3 g4]
    · have hpo : 998 + 2 * po ≠ 1000 + 2 * a := by
        rcases ho with h | ⟨d, q, h1, h2, h3, h4, h5⟩ <;> omega
      rw [(fr.1 _ _ (by omega)).1, rFi hpo, rFL, rFi hpo, b4 q]
    · rw [(fr.1 _ _ g1).2.1, rLF, rLi g2, rLF, b5 i k g2]
    · rw [(fr.1 _ _ g1).2.2, rXF, rXL, rXF, b6 i k g2 g3]
    · rw [fr.2.1, rFi z1, rFL, rFi z1, b3 1 1 (by omega) (by omega) (by omega)]
  rcases hκ with rfl | rfl | rfl
  · rw [if_pos (show nI 0 = (0 : Int32) from rfl), if_neg (show ¬ nI 0 = (1 : Int32) by decide), if_neg (show ¬ nI 0 = (1 : Int32) by decide)]
    rw [v6 rfl]
    obtain ⟨C', e, c, P', l⟩ := key (tkV T n p) 0 (-1)
    exact ⟨C', h', e, c, P', a1, hh, l⟩
  · rw [if_neg (show ¬ nI 1 = (0 : Int32) by decide), if_pos (show nI 1 = (1 : Int32) from rfl), if_pos (show nI 1 = (1 : Int32) from rfl), rLF]
    rw [v5 rfl]
    obtain ⟨C', e, c, P', l⟩ := key 0 (tkW T n p) (nI (sk T n p))
    exact ⟨C', h', e, c, P', a1, hh, l⟩
  · rw [if_neg (show ¬ nI 2 = (0 : Int32) by decide), if_neg (show ¬ nI 2 = (1 : Int32) by decide), if_neg (show ¬ nI 2 = (1 : Int32) by decide)]
    obtain ⟨C', e, c, P', l⟩ := key 0 0 (-1)
    exact ⟨C', h', e, c, P', a1, hh, l⟩
/-- a new node in the relation -/
theorem NEW {C C' M M' : HS} {a po : Nat} {pr al pt : Nat → Nat} (hN : ∀ j, j < a → NQ C M j) (hT : ∀ j, j < a → TI C pr al pt j) (na : NQ C' M' a) (t4 : gF C' (1000 + 2 * a) 4 = pI po) (t2 : gF C' (1000 + 2 * a) 2 = 1) (t1 : gF C' (1000 + 2 * a) 1 = 0) (hF : ∀ j k, j < a → ¬ (j + 1 = po ∧ k = 1) → gF C' (1000 + 2 * j) k = gF C (1000 + 2 * j) k) (hL : ∀ j k, j < a → gL C' (1000 + 2 * j) k = gL C (1000 + 2 * j) k) (hp : 0 < po → gF C' (998 + 2 * po) 1 = gF C (998 + 2 * po) 1 + 1) (hM : ∀ i j, 220 ≤ i → i ≤ 226 → j < a → gF M' i j = gF M i j) (hK : ∀ i j, 227 ≤ i → i ≤ 228 → j < a → gL M' i j = gL M i j) :
    (∀ j, j < a + 1 → NQ C' M' j) ∧ ∀ j, j < a + 1 → TI C' (fun j => if j = a then po else pr j) (fun j => if j = a then 1 else al j) (fun j => if j = a then 0 else if j + 1 = po then pt j + 1 else pt j) j := by
  refine ⟨fun j hj => ?_, fun j hj => ?_⟩
  · by_cases e : j = a
    · rw [e]; exact na
    · exact (hN j (by omega)).cg (fun k k1 _ => hF j k (by omega) (fun q => k1 q.2)) (fun k => hL j k (by omega)) (fun i h1 h2 => hM i j h1 h2 (by omega)) (fun i h1 h2 => hK i j h1 h2 (by omega))
  · unfold TI
    by_cases e : j = a
    · simp only [e, if_true]
      exact ⟨t4, t2, t1⟩
    · simp only [e, if_false]
      obtain ⟨q1, q2, q3⟩ := hT j (by omega)
      refine ⟨(hF j 4 (by omega) (fun q => absurd q.2 (by decide))).trans q1, (hF j 2 (by omega) (fun q => absurd q.2 (by decide))).trans q2, ?_⟩
      by_cases ep : j + 1 = po
      · rw [if_pos ep, show 1000 + 2 * j = 998 + 2 * po by omega, hp (by omega), show 998 + 2 * po = 1000 + 2 * j by omega, q3, nI_1]
      · rw [if_neg ep, hF j 1 (by omega) (fun q => ep q.1), q3]
def MKL (M M' : HS) (a : Nat) (κ o fp vl : Int32) (w : Int64) : Prop :=
  gF M' 200 19 = nI (a + 1) ∧ (gF M' 220 a = κ ∧ gF M' 221 a = o ∧ gF M' 222 a = gF M 200 7 ∧ gF M' 223 a = fp ∧ gF M' 224 a = -1 ∧ gF M' 226 a = vl ∧ gF M' 225 a = gF M 200 32 ∧ gL M' 227 a = w ∧ gL M' 228 a = 0) ∧
  (∀ i k, ¬ (220 ≤ i ∧ i ≤ 226 ∧ k = a) → ¬ (i = 200 ∧ k = 19) → gF M' i k = gF M i k) ∧ (∀ i k, ¬ (227 ≤ i ∧ i ≤ 228 ∧ k = a) → gL M' i k = gL M i k) ∧ (∀ i k, gX M' i k = gX M i k) ∧ M'.2.2.2 = M.2.2.2
theorem MKL.fm {M M' : HS} {a : Nat} {κ o fp vl : Int32} {w : Int64} (h : MKL M M' a κ o fp vl w) : FM M M' := ⟨fun i k q => ⟨h.2.2.1 i k (by omega) (by omega), h.2.2.2.1 i k (by omega)⟩, fun k q => h.2.2.1 200 k (by omega) (by omega), h.2.2.2.2.1, h.2.2.2.2.2⟩
theorem RB.leaf {C C' M M' : HS} {a h h' g po : Nat} {pr al pt : Nat → Nat} {fs : List (Nat × Nat × Nat)} {v0 : Nat} {κ pl v fp vl o : Int32} {w : Int64} (hR : RB C M a h g pr al pt fs v0) (hpo : po = prO (fs.map Prod.fst)) (hP : PL C' h' g) (hh : a < h') (l : LF C C' a po κ pl v fp vl w) (m : MKL M M' a κ o fp vl w) (hpl : pl = gF M 200 7) (hv : v = gF M 200 32) (hoe : o = pI po) :
    RB C' M' (a + 1) h' g (fun j => if j = a then po else pr j) (fun j => if j = a then 1 else al j) (fun j => if j = a then 0 else if j + 1 = po then pt j + 1 else pt j) fs v0 := by
  obtain ⟨r1, r2, r3, r4, r5, r6, r7, r8, r9⟩ := hR
  obtain ⟨l1, ⟨n0, n1, n2, n3, n4, n5, n8, n9, n10, n6, n7⟩, l3, l4, l5, l6, l7⟩ := l
  obtain ⟨m1, ⟨k0, k1, k2, k3, k4, k5, k6, k7, k8⟩, m3, m4, m5, m6⟩ := m
  have hle : po ≤ a := by rw [hpo]; exact prO_le (fun t ht => (r7.2.2.2.1 t ht).1)
  obtain ⟨w1, w2⟩ := NEW (C' := C') (M' := M') r5 r6 ⟨k0.trans n0.symm, by rw [k2, n3, hpl], by rw [k1, n4, hoe], by rw [k6, n5, hv], k3.trans n8.symm, k4.trans n9.symm, k5.trans n10.symm, k7.trans n6.symm, k8.trans n7.symm⟩ n4 n2 n1 (fun j k hj hk => l3 _ k (by omega) (by omega) (by omega) (fun q => hk ⟨by omega, q.2.2⟩)) (fun j k hj => l5 _ k (by omega) (by omega)) l4 (fun i j h1 h2 hj => m3 i j (by omega) (by omega)) (fun i j h1 h2 hj => m4 i j (by omega))
  refine ⟨hP, ⟨by omega, r2.2.1, by omega, r2.2.2.2⟩, l1, m1, w1, w2, ?_, ?_, ?_⟩
  · refine r7.leaf (fun j hj => ?_) ?_ (fun j hj => ?_) ?_ (fun j hj => ?_) ?_
    · show (if j = a then _ else _) = _; rw [if_neg (by omega)]
    · show (if a = a then _ else _) = _; rw [if_pos rfl, hpo]
    · show (if j = a then _ else _) = _; rw [if_neg (by omega)]
    · show (if a = a then _ else _) = _; rw [if_pos rfl]
    · show (if j = a then _ else _) = _; rw [if_neg (by omega), hpo]
    · show (if a = a then _ else _) = _; rw [if_pos rfl]
  · rw [l3 0 6 (by decide) (by omega) (by omega) (by omega), r8]
  · exact r9.cg (by omega) (fun i k hi => ⟨l3 _ k (by omega) (by omega) (by omega) (by omega), l6 _ k (by omega) (by omega) (by omega)⟩) (fun j hj => ⟨l3 _ 0 (by omega) (by omega) (by omega) (by omega), l3 _ 5 (by omega) (by omega) (by omega) (by omega)⟩)
