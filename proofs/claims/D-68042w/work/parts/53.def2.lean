-- the relation between definitions
theorem gdA {α : Type} {C : HS} {h g a : Nat} (hP : PL C h g) (ha : a < 64) (S : HS) (x : Option α) (hS : SD C S) : gd (kd (6 + 3 * a + 1) = 12 ∧ gD S (6 + 3 * a + 1) = true ∧ ln (6 + 3 * a + 1) = 8) x = x := gd_pos ⟨by unfold kd; rw [if_neg (by omega), if_pos (by omega), show (6 + 3 * a + 1 - 6) % 3 = 1 by omega]; rfl, by unfold gD; rw [show S.2.2.2 = C.2.2.2 from hS]; exact hP.2.2.2.2.1 _ (by omega), by unfold ln; rw [if_neg (by omega), if_pos (by omega)]⟩ x
theorem gdB {α : Type} {C : HS} {h g a : Nat} (hP : PL C h g) (ha : a < 64) (S : HS) (x : Option α) (hS : SD C S) : gd (kd (6 + 3 * a + 2) = 11 ∧ gD S (6 + 3 * a + 2) = true ∧ ln (6 + 3 * a + 2) = 8) x = x := gd_pos ⟨by unfold kd; rw [if_neg (by omega), if_pos (by omega), show (6 + 3 * a + 2 - 6) % 3 = 2 by omega]; rfl, by unfold gD; rw [show S.2.2.2 = C.2.2.2 from hS]; exact hP.2.2.2.2.1 _ (by omega), by unfold ln; rw [if_neg (by omega), if_pos (by omega)]⟩ x
def RB0 (C M : HS) (a h g : Nat) (pr al pt : Nat → Nat) : Prop := PL C h g ∧ a ≤ h ∧ gF C 0 2 = nI a ∧ gF M 200 19 = nI a ∧ (∀ j, j < a → NQ C M j) ∧ (∀ j, j < a → TI C pr al pt j) ∧ TR pr al pt a []
def D1 (C M : HS) (d : Nat) : Prop := gF M 211 d = gF C (6 + 3 * d) 0 ∧ (gF C (6 + 3 * d) 0 = 0 ∨ gF C (6 + 3 * d) 0 = 1)
def D2 (C M : HS) (d m : Nat) : Prop := D1 C M d ∧ gF M 215 d = gF C (6 + 3 * d) 5 ∧ gL M 216 d = gL C (6 + 3 * d) 4 ∧ gF C (6 + 3 * d) 2 = nI m ∧ gF M 213 d = nI m ∧ m ≤ 8 ∧ ∀ i, i < m → gL M 217 (8 * d + i) = gL C (6 + 3 * d + 1) i ∧ gF M 218 (8 * d + i) = gF C (6 + 3 * d + 2) i
def DQ (C M : HS) (d : Nat) : Prop := (∃ m, D2 C M d m) ∧ gF M 212 d = gF C (6 + 3 * d) 1 ∧ gF M 214 d = gF C (6 + 3 * d) 3
theorem D1.cg {C C' M M' : HS} {d : Nat} (h : D1 C M d) (hC : gF C' (6 + 3 * d) 0 = gF C (6 + 3 * d) 0) (hM : gF M' 211 d = gF M 211 d) : D1 C' M' d := ⟨by rw [hM, hC, h.1], by rw [hC]; exact h.2⟩
theorem D2.cg {C C' M M' : HS} {d m : Nat} (h : D2 C M d m) (hC : ∀ i k, 6 + 3 * d ≤ i → i < 9 + 3 * d → gF C' i k = gF C i k) (hL : ∀ i k, 6 + 3 * d ≤ i → i < 9 + 3 * d → gL C' i k = gL C i k) (hM : ∀ i, 211 ≤ i → i ≤ 215 → gF M' i d = gF M i d) (h6 : gL M' 216 d = gL M 216 d) (h7 : ∀ k, 8 * d ≤ k → k < 8 * d + 8 → gL M' 217 k = gL M 217 k ∧ gF M' 218 k = gF M 218 k) : D2 C' M' d m := by
  obtain ⟨a, b, c, e, f, g, i⟩ := h
  refine ⟨a.cg (hC _ 0 (by omega) (by omega)) (hM 211 (by decide) (by decide)), ?_, ?_, (hC _ 2 (by omega) (by omega)).trans e, (hM 213 (by decide) (by decide)).trans f, g, fun x hx => ⟨?_, ?_⟩⟩
  · rw [hM 215 (by decide) (by decide), hC _ 5 (by omega) (by omega), b]
  · rw [h6, hL _ 4 (by omega) (by omega), c]
  · rw [(h7 _ (by omega) (by omega)).1, hL _ x (by omega) (by omega), (i x hx).1]
  · rw [(h7 _ (by omega) (by omega)).2, hC _ x (by omega) (by omega), (i x hx).2]
theorem DQ.cg {C C' M M' : HS} {d : Nat} (h : DQ C M d) (hC : ∀ i k, 6 + 3 * d ≤ i → i < 9 + 3 * d → gF C' i k = gF C i k) (hL : ∀ i k, 6 + 3 * d ≤ i → i < 9 + 3 * d → gL C' i k = gL C i k) (hM : ∀ i, 211 ≤ i → i ≤ 215 → gF M' i d = gF M i d) (h6 : gL M' 216 d = gL M 216 d) (h7 : ∀ k, 8 * d ≤ k → k < 8 * d + 8 → gL M' 217 k = gL M 217 k ∧ gF M' 218 k = gF M 218 k) : DQ C' M' d := by
  obtain ⟨⟨m, a⟩, b, c⟩ := h
  exact ⟨⟨m, a.cg hC hL hM h6 h7⟩, by rw [hM 212 (by decide) (by decide), hC _ 1 (by omega) (by omega), b], by rw [hM 214 (by decide) (by decide), hC _ 3 (by omega) (by omega), c]⟩
def ZZ (C M : HS) : Prop := gF C 0 7 = 0 ∧ gF M 200 3 = 0 ∧ gF C 0 8 = -1 ∧ gF M 200 4 = -1
def RD (C M : HS) (a h g : Nat) (pr al pt : Nat → Nat) (d : Nat) : Prop := (h ≤ 600 ∧ g ≤ 600) ∧ RB0 C M a h g pr al pt ∧ gF C 0 4 = nI d ∧ gF M 200 10 = nI d ∧ d ≤ 64 ∧ ∀ j, j < d → DQ C M j
theorem RD.cg {C C' M M' : HS} {a h g : Nat} {pr al pt : Nat → Nat} {d : Nat} (H : RD C M a h g pr al pt d)
    (hC : ∀ i k, (i = 0 ∧ (k = 2 ∨ k = 4)) ∨ (6 ≤ i ∧ i < 6 + 3 * d) ∨ 1000 ≤ i → gF C' i k = gF C i k) (hL : ∀ i k, (6 ≤ i ∧ i < 6 + 3 * d) ∨ 1000 ≤ i → gL C' i k = gL C i k) (hX : ∀ i k, i = 3 ∨ i = 5 → gX C' i k = gX C i k) (hD : C'.2.2.2 = C.2.2.2)
    (hM : ∀ i k, (i = 200 ∧ (k = 19 ∨ k = 10)) ∨ (220 ≤ i ∧ i ≤ 226) ∨ (211 ≤ i ∧ i ≤ 215 ∧ k < d) ∨ (i = 218 ∧ k < 8 * d) → gF M' i k = gF M i k) (hN : ∀ i k, (227 ≤ i ∧ i ≤ 228) ∨ (i = 216 ∧ k < d) ∨ (i = 217 ∧ k < 8 * d) → gL M' i k = gL M i k) : RD C' M' a h g pr al pt d := by
  obtain ⟨b, ⟨r1, r2, r3, r4, r5, r6, r7⟩, c1, c2, c3, c4⟩ := H
  refine ⟨b, ⟨r1.cg (fun k => hX 3 k (Or.inl rfl)) (fun k => hX 5 k (Or.inr rfl)) hD, r2, (hC 0 2 (by omega)).trans r3, (hM 200 19 (by omega)).trans r4, fun j hj => (r5 j hj).cg (fun k _ _ => hC _ k (by omega)) (fun k => hL _ k (by omega)) (fun i h1 h2 => hM i j (by omega)) (fun i h1 h2 => hN i j (by omega)), fun j hj => ?_, r7⟩, (hC 0 4 (by omega)).trans c1, (hM 200 10 (by omega)).trans c2, c3, fun j hj => (c4 j hj).cg (fun i k h1 h2 => hC i k (by omega)) (fun i k h1 h2 => hL i k (by omega)) (fun i h1 h2 => hM i j (by omega)) (hN 216 j (by omega)) (fun k h1 h2 => ⟨hN 217 k (by omega), hM 218 k (by omega)⟩)⟩
  obtain ⟨t1, t2, t3⟩ := r6 j hj
  exact ⟨(hC _ 4 (by omega)).trans t1, (hC _ 2 (by omega)).trans t2, (hC _ 1 (by omega)).trans t3⟩
theorem RD.frx {C C' M : HS} {a h g : Nat} {pr al pt : Nat → Nat} {d : Nat} (H : RD C M a h g pr al pt d) (f : FrX C C') : RD C' M a h g pr al pt d :=
  H.cg (fun i k q => (f.1 i k (by omega)).1) (fun i k q => (f.1 i k (by omega)).2.1) (fun i k q => (f.1 i k (by omega)).2.2) f.2.2.2 (fun _ _ _ => rfl) (fun _ _ _ => rfl)
theorem RD.frm {C M M' : HS} {a h g : Nat} {pr al pt : Nat → Nat} {d : Nat} (H : RD C M a h g pr al pt d) (f : FrM M M') : RD C M' a h g pr al pt d :=
  H.cg (fun _ _ _ => rfl) (fun _ _ _ => rfl) (fun _ _ _ => rfl) rfl (fun i k q => by
    by_cases e : i = 200
    · rw [e]; exact f.2.1 k (by omega) (by omega) (by omega) (by omega) (by omega) (by omega)
    · exact (f.1 i k e).1) (fun i k q => (f.1 i k (by omega)).2)
theorem D1.frx {C C' M : HS} {d : Nat} (h : D1 C M d) (f : FrX C C') : D1 C' M d := h.cg (f.1 _ _ (by omega)).1 rfl
theorem D1.frm {C M M' : HS} {d : Nat} (h : D1 C M d) (f : FrM M M') : D1 C M' d := h.cg rfl (f.1 _ _ (by decide)).1
theorem D2.frx {C C' M : HS} {d m : Nat} (h : D2 C M d m) (f : FrX C C') : D2 C' M d m := h.cg (fun i k _ _ => (f.1 _ _ (by omega)).1) (fun i k _ _ => (f.1 _ _ (by omega)).2.1) (fun _ _ _ => rfl) rfl (fun _ _ _ => ⟨rfl, rfl⟩)
theorem D2.frm {C M M' : HS} {d m : Nat} (h : D2 C M d m) (f : FrM M M') : D2 C M' d m := h.cg (fun _ _ _ _ => rfl) (fun _ _ _ _ => rfl) (fun i h1 h2 => (f.1 i _ (by omega)).1) (f.1 216 _ (by decide)).2 (fun k _ _ => ⟨(f.1 217 k (by decide)).2, (f.1 218 k (by decide)).1⟩)
-- what a read leaves as it is
def GC (C C' : HS) : Prop := ∀ i k, 200 ≤ i → i < 1000 → gF C' i k = gF C i k ∧ gL C' i k = gL C i k
theorem GC.rf {C : HS} : GC C C := fun _ _ _ _ => ⟨rfl, rfl⟩
theorem GC.tr {A B C : HS} (h : GC A B) (k : GC B C) : GC A C := fun i q a b => ⟨(k i q a b).1.trans (h i q a b).1, (k i q a b).2.trans (h i q a b).2⟩
theorem GC.fc {C C' : HS} (f : FC C C') : GC C C' := fun i k h1 h2 => f.1 i k (by omega) h2
theorem GC.frx {C C' : HS} (f : FrX C C') : GC C C' := GC.fc (FC.frx f)
theorem GC.tf {C C' : HS} (f : TF C C') : GC C C' := fun i k h1 h2 => ⟨f.1 i k (by omega) (by omega), f.2.1 i k (by omega)⟩
theorem GC.sF {C : HS} {i k : Nat} {v : Int32} (h : i < 200) : GC C (sF C i k v) := fun a b h1 h2 => ⟨by rw [rFi (by omega)], rfl⟩
theorem GC.sL {C : HS} {i k : Nat} {v : Int64} (h : i < 200) : GC C (sL C i k v) := fun a b h1 h2 => ⟨rfl, by rw [rLi (by omega)]⟩
def GM (M M' : HS) : Prop := (∀ i k, i < 200 ∨ i = 201 ∨ 231 ≤ i → gF M' i k = gF M i k ∧ gL M' i k = gL M i k) ∧ gF M' 200 2 = gF M 200 2 ∧ (∀ i k, gX M' i k = gX M i k) ∧ M'.2.2.2 = M.2.2.2
theorem GM.rf {M : HS} : GM M M := ⟨fun _ _ _ => ⟨rfl, rfl⟩, rfl, fun _ _ => rfl, rfl⟩
theorem GM.tr {A B C : HS} (h : GM A B) (k : GM B C) : GM A C := ⟨fun i q a => ⟨(k.1 i q a).1.trans (h.1 i q a).1, (k.1 i q a).2.trans (h.1 i q a).2⟩, k.2.1.trans h.2.1, fun i q => (k.2.2.1 i q).trans (h.2.2.1 i q), k.2.2.2.trans h.2.2.2⟩
theorem GM.fm {M M' : HS} (f : FM M M') : GM M M' := ⟨fun i k q => f.1 i k (by omega), f.2.1 2 (by omega), f.2.2.1, f.2.2.2⟩
theorem GM.frm {M M' : HS} (f : FrM M M') : GM M M' := GM.fm (FM.frm f)
theorem GM.tm {M M' : HS} (f : TM M M') : GM M M' := ⟨fun i k q => ⟨f.1 i k (by omega) (by omega), f.2.1 i k (by omega)⟩, f.1 200 2 (by omega) (by omega), f.2.2.1, f.2.2.2⟩
theorem GM.sF {M : HS} {i k : Nat} {v : Int32} (h : (200 ≤ i ∧ i ≤ 230 ∧ i ≠ 201) ∧ ¬ (i = 200 ∧ k = 2)) : GM M (sF M i k v) := ⟨fun a b q => ⟨by rw [rFi (by omega)], rfl⟩, by rw [rF, if_neg (by omega)], fun _ _ => rfl, rfl⟩
theorem GM.sL {M : HS} {i k : Nat} {v : Int64} (h : 200 ≤ i ∧ i ≤ 230 ∧ i ≠ 201) : GM M (sL M i k v) := ⟨fun a b q => ⟨rfl, by rw [rLi (by omega)]⟩, rfl, fun _ _ => rfl, rfl⟩
/-- a fault was found on both sides -/
def OF (C0 M0 C' M' : HS) (T : Nat → Int32) (n : Nat) : Prop := GC C0 C' ∧ GM M0 M' ∧ FTR C' M' T n
theorem FTR.tf {C C' M M' : HS} {T : Nat → Int32} {n : Nat} (h : FTR C M T n) (f : TF C C') (m3 : gF M' 200 3 = gF M 200 3) (m4 : gF M' 200 4 = gF M 200 4) : FTR C' M' T n := by
  obtain ⟨⟨s, q, a, b, c, d⟩, ⟨p, hC⟩, x, y, hP, z⟩ := h
  exact ⟨⟨s, q, f.f7.trans a, m3.trans b, f.f8.trans c, m4.trans d⟩, ⟨p, f.cv hC⟩, x, y, f.pl hP, z⟩
-- the loops over the parameters
theorem C_tw {C : HS} {T : Nat → Int32} {n p h g d m : Nat} (hC : CV C T n p) (hP : PL C h g) (hd : d < 64) (hm : m ≤ 8) (h2 : gF C (6 + 3 * d) 2 = nI m) : ∀ (k j : Nat) (b : Bool), j ≤ m → m - j < k → f_P_readParameter_b38 FU k (6 + 3 * d) (b32 b) (nI j) C = (if (gF C 0 7) = 0 then ob (f_P_isName FU C) fun r9 => (if r9 = 0 then f_P_readParameter_b110 FU (6 + 3 * d) C else (if b32 (b || anyB (fun i => decide (tkS T n p = 2 ∧ gL C (6 + 3 * d + 1) i = gL C 1 5)) (m - j) j) = 0 then f_P_readParameter_b114 FU (6 + 3 * d) C else f_P_readParameter_b110 FU (6 + 3 * d) C)) else f_P_readParameter_b114 FU (6 + 3 * d) C)
  | 0, j, b, _, hk => absurd hk (by omega)
  | k + 1, j, b, hj, hk => by
    obtain ⟨hx, hs⟩ := hC.so
    show f_P_readParameter_b38B FU (f_P_readParameter_b38 FU k) (6 + 3 * d) (b32 b) (nI j) C = _
    unfold f_P_readParameter_b38B
    rw [gdD hP hd _ _ rfl, h2]
    by_cases e : j = m
    · rw [if_pos (by rw [e]; exact Int32.le_refl _), e, Nat.sub_self, show anyB (fun i => decide (tkS T n p = 2 ∧ gL C (6 + 3 * d + 1) i = gL C 1 5)) 0 m = false from rfl, Bool.or_false]
    · have hlt : j < m := by omega
      rw [if_neg (nI_ge hlt (by omega)), show m - j = (m - (j + 1)) + 1 by omega]
      have ea : anyB (fun i => decide (tkS T n p = 2 ∧ gL C (6 + 3 * d + 1) i = gL C 1 5)) (m - (j + 1) + 1) j = (decide (tkS T n p = 2 ∧ gL C (6 + 3 * d + 1) j = gL C 1 5) || anyB (fun i => decide (tkS T n p = 2 ∧ gL C (6 + 3 * d + 1) i = gL C 1 5)) (m - (j + 1)) (j + 1)) := rfl
      rw [ea]
      have e1 : f_P_readParameter_b80 FU (f_P_readParameter_b38 FU k) (6 + 3 * d) (nI j) C = f_P_readParameter_b38 FU k (6 + 3 * d) (b32 true) (nI (j + 1)) C := by
        unfold f_P_readParameter_b80 f_P_readParameter_b85
        rw [lt_e, lt_e, nI_1]
        rfl
      have e0 : f_P_readParameter_b84 FU (f_P_readParameter_b38 FU k) (6 + 3 * d) (nI j) C = f_P_readParameter_b38 FU k (6 + 3 * d) (b32 false) (nI (j + 1)) C := by
        unfold f_P_readParameter_b84 f_P_readParameter_b85
        rw [lt_e, lt_e, nI_1]
        rfl
      rw [e1, e0, C_tw hC hP hd hm h2 k (j + 1) true (by omega) (by omega), C_tw hC hP hd hm h2 k (j + 1) false (by omega) (by omega)]
      cases b with
      | false =>
        rw [if_pos (show b32 false = 0 from rfl), hx, ob_s, gd_pos ⟨hs, by decide⟩, gdD hP hd _ _ rfl, gdA hP hd _ _ rfl, gd_pos (in_n (by omega) (by decide)), cl_n (by omega)]
        by_cases q2 : tkS T n p = 2
        · rw [if_pos (by omega)]
          simp only [lg_cmp_eq]
          by_cases q : gL C (6 + 3 * d + 1) j = gL C 1 5
          · rw [if_pos q, decide_eq_true (⟨q2, q⟩ : tkS T n p = 2 ∧ gL C (6 + 3 * d + 1) j = gL C 1 5)]
            simp only [Bool.true_or, Bool.false_or]
          · rw [if_neg q, decide_eq_false (fun z : tkS T n p = 2 ∧ gL C (6 + 3 * d + 1) j = gL C 1 5 => q z.2)]
            simp only [Bool.false_or]
        · rw [if_neg (by omega), decide_eq_false (fun z : tkS T n p = 2 ∧ gL C (6 + 3 * d + 1) j = gL C 1 5 => q2 z.1)]
          simp only [Bool.false_or]
      | true =>
        rw [if_neg (show ¬ b32 true = 0 by decide), Bool.true_or, Bool.true_or]
theorem M_pw {M : HS} {d m : Nat} (hd : d < 64) (hm : m ≤ 8) (h2 : gF M 213 d = nI m) : ∀ (k j : Nat) (b : Bool), j ≤ m → m - j < k → f_M_readParameter_b29 FU k (nI d) (b32 b) (nI j) M = (if 0 < (gF M 200 3) then f_M_readParameter_b93 FU (nI d) M else ob (f_M_isOwn FU M) fun r8 => (if r8 = 0 then f_M_readParameter_b97 FU (nI d) M else (if b32 (b || anyB (fun i => decide (gL M 217 (8 * d + i) = gL M 200 8)) (m - j) j) = 0 then f_M_readParameter_b93 FU (nI d) M else f_M_readParameter_b97 FU (nI d) M)))
  | 0, j, b, _, hk => absurd hk (by omega)
  | k + 1, j, b, hj, hk => by
    show f_M_readParameter_b29B FU (f_M_readParameter_b29 FU k) (nI d) (b32 b) (nI j) M = _
    unfold f_M_readParameter_b29B
    rw [gd_pos (in_n hd (by decide)), cl_n (by omega), h2]
    by_cases e : j = m
    · rw [if_pos (by rw [e]; exact Int32.le_refl _), e, Nat.sub_self, show anyB (fun i => decide (gL M 217 (8 * d + i) = gL M 200 8)) 0 m = false from rfl, Bool.or_false]
    · have hlt : j < m := by omega
      rw [if_neg (nI_ge hlt (by omega)), show m - j = (m - (j + 1)) + 1 by omega]
      have ea : anyB (fun i => decide (gL M 217 (8 * d + i) = gL M 200 8)) (m - (j + 1) + 1) j = (decide (gL M 217 (8 * d + j) = gL M 200 8) || anyB (fun i => decide (gL M 217 (8 * d + i) = gL M 200 8)) (m - (j + 1)) (j + 1)) := rfl
      rw [ea]
      have e1 : f_M_readParameter_b62 FU (f_M_readParameter_b29 FU k) (nI d) (nI j) M = f_M_readParameter_b29 FU k (nI d) (b32 true) (nI (j + 1)) M := by
        unfold f_M_readParameter_b62 f_M_readParameter_b67
        rw [lt_e, lt_e, nI_1]
        rfl
      have e0 : f_M_readParameter_b67 FU (f_M_readParameter_b29 FU k) (nI d) (nI j) 0 M = f_M_readParameter_b29 FU k (nI d) (b32 false) (nI (j + 1)) M := by
        unfold f_M_readParameter_b67
        rw [lt_e, lt_e, nI_1]
        rfl
      rw [e1, e0, M_pw hd hm h2 k (j + 1) true (by omega) (by omega), M_pw hd hm h2 k (j + 1) false (by omega) (by omega)]
      cases b with
      | false =>
        rw [if_pos (show b32 false = 0 from rfl), show (8 : Int32) = nI 8 from rfl, pk_mul, nI_add, gd_pos (in_n (by omega) (by decide)), cl_n (by omega)]
        simp only [lg_cmp_eq]
        by_cases q : gL M 217 (8 * d + j) = gL M 200 8
        · rw [if_pos q, decide_eq_true q]
          simp only [Bool.true_or, Bool.false_or]
        · rw [if_neg q, decide_eq_false q]
          simp only [Bool.false_or]
      | true =>
        rw [if_neg (show ¬ b32 true = 0 by decide), Bool.true_or, Bool.true_or]
