-- the forms, and what the model has to come for them
def fm (κ : Nat) : Nat := (f_P_formOf (nI κ)).getD 334
def flen (κ : Nat) : Nat := (sB (fm κ)).length
def fch (κ s : Nat) : Int32 := (sB (fm κ)).getD s 0
def lst (κ : Nat) : Nat := if κ < 18 then 1 else 2
/-- what is due in an open expression of a kind at a step, the nearest first -/
def rr (κ s : Nat) : List Nat :=
  if κ = 10 ∨ κ = 20 then [1, lst κ, lst κ, 3].drop s
  else if κ = 11 ∨ κ = 21 then (match s with | 0 => [5, lst κ, 8, 3] | 1 => [1, 10, lst κ, 8, 3] | 2 => [10, lst κ, 8, 3] | 3 => [8, 3] | _ => [])
  else if κ = 12 ∨ κ = 22 then (match s with | 0 => [1, lst κ, 4, 5, 6, lst κ, 8, 3, 3] | 1 => [lst κ, 4, 5, 6, lst κ, 8, 3, 3] | 2 => [4, 5, 6, lst κ, 8, 3, 3] | 3 => [5, 6, lst κ, 8, 3, 3] | 4 => [6, lst κ, 8, 3, 3] | 5 => [lst κ, 8, 3, 3] | 6 => [8, 3, 3] | 7 => [3] | _ => [])
  else if κ = 14 ∨ κ = 15 ∨ κ = 23 then (match s with | 0 => [9, 7, 3] | 1 => [7, 3] | 2 => [7, 3] | _ => [])
  else if κ = 16 ∨ κ = 17 then [2, 3].drop s
  else if κ = 18 then (match s with | 0 => [1, 5, 2, 8, 3] | 1 => [5, 2, 8, 3] | 2 => [2, 8, 3] | 3 => [8, 3] | _ => [])
  else if κ = 19 then [1, 3].drop s
  else [1, 1, 3].drop s
/-- the variables that are there beyond those around it -/
def dr (κ s : Nat) : Nat := if κ = 11 ∨ κ = 21 then (if s = 3 then 1 else 0) else if κ = 12 ∨ κ = 22 then (if s = 4 then 1 else if s = 5 ∨ s = 6 then 2 else 0) else if κ = 18 then (if s = 2 ∨ s = 3 then 1 else 0) else 0
def dov (κ s : Nat) : Nat := if κ = 11 ∨ κ = 21 then (if s = 0 then 0 else 1) else if κ = 12 ∨ κ = 22 then (if s ≤ 3 then 0 else if s = 4 then 1 else 2) else if κ = 18 then (if s ≤ 1 then 0 else 1) else 0
def nr (κ s : Nat) : List Nat := match rr κ s with | 10 :: r => r | 8 :: r => r | r => r
def dn (κ s : Nat) : Nat := match rr κ s with | 10 :: _ => dr κ s + 1 | 8 :: _ => 0 | _ => dr κ s
def isCl (κ : Nat) : Bool := decide (κ = 14 ∨ κ = 15 ∨ κ = 23)
/-- the steps at which both stand in the same way -/
def flm (κ : Nat) : Nat := if isCl κ = true then 2 else flen κ
theorem flm_le : ∀ κ, κ < 24 → flm κ ≤ flen κ := by decide +kernel
theorem tb_fm : ∀ κ, κ < 24 → f_P_formOf (nI κ) = some (fm κ) ∧ isT (fm κ) ∧ flen κ ≤ 8 ∧ 2 ≤ flen κ := by decide +kernel
theorem chk2 {P : Nat → Nat → Bool} {a b : Nat} (h : (List.range a).all (fun κ => (List.range b).all (fun s => P κ s)) = true) : ∀ κ, κ < a → ∀ s, s < b → P κ s = true := fun κ h1 s h2 => List.all_eq_true.mp (List.all_eq_true.mp h κ (List.mem_range.mpr h1)) s (List.mem_range.mpr h2)
def tbq (κ s : Nat) : Bool := decide (3 ≤ κ ∧ s < flen κ)
theorem tb_sil : ∀ κ, κ < 24 → 3 ≤ κ → ∀ s, s < flen κ → (rr κ s = nr κ s ∧ dn κ s = dr κ s ∧ (∀ w r, rr κ s = w :: r → w ≠ 8 ∧ w ≠ 10)) ∨ (rr κ s = 10 :: nr κ s ∧ dn κ s = dr κ s + 1) ∨ (rr κ s = 8 :: nr κ s ∧ dr κ s = dn κ s + (if κ = 12 ∨ κ = 22 then 2 else 1)) := by
  have : ∀ κ, κ < 24 → ∀ s, s < 8 → tbq κ s = true → (rr κ s = nr κ s ∧ dn κ s = dr κ s ∧ (rr κ s).head? ≠ some 8 ∧ (rr κ s).head? ≠ some 10) ∨ (rr κ s = 10 :: nr κ s ∧ dn κ s = dr κ s + 1) ∨ (rr κ s = 8 :: nr κ s ∧ dr κ s = dn κ s + (if κ = 12 ∨ κ = 22 then 2 else 1)) := fun κ h s h8 => of_decide_eq_true (chk2 (P := fun κ s => decide (tbq κ s = true → (rr κ s = nr κ s ∧ dn κ s = dr κ s ∧ (rr κ s).head? ≠ some 8 ∧ (rr κ s).head? ≠ some 10) ∨ (rr κ s = 10 :: nr κ s ∧ dn κ s = dr κ s + 1) ∨ (rr κ s = 8 :: nr κ s ∧ dr κ s = dn κ s + (if κ = 12 ∨ κ = 22 then 2 else 1)))) (by decide +kernel) κ h s h8)
  intro κ h1 h2 s hs
  have h8 := (tb_fm κ h1).2.2.1
  rcases this κ h1 s (by omega) (decide_eq_true ⟨h2, hs⟩) with ⟨a, b, c, d⟩ | h | h
  · left
    refine ⟨a, b, fun w r e => ?_⟩
    rw [e] at c d
    exact ⟨fun q => c (by rw [q]; rfl), fun q => d (by rw [q]; rfl)⟩
  · exact Or.inr (Or.inl h)
  · exact Or.inr (Or.inr h)
theorem tb_len : ∀ κ, κ < 24 → ∀ s, (rr κ s).length ≤ 9 := by
  have : ∀ κ, κ < 24 → ∀ s, s < 9 → (rr κ s).length ≤ 9 := by decide +kernel
  intro κ h s
  by_cases hs : s < 9
  · exact this κ h s hs
  · unfold rr
    repeat' split
    all_goals first | (simp; done) | (simp; omega)
theorem tb_ex' : ∀ κ, κ < 24 → ∀ s, s < 8 → tbq κ s = true → (fch κ s = 101 ∨ fch κ s = 99) → nr κ s = (if fch κ s = 101 then 1 else 2) :: rr κ (s + 1) ∧ dr κ (s + 1) = dn κ s ∧ s + 1 < flm κ ∧ dov κ (s + 1) = dov κ s ∧ (if fch κ (s + 1) = 41 then dov κ (s + 1) else 0) = dn κ s := fun κ h s h8 => of_decide_eq_true (chk2 (P := fun κ s => decide (tbq κ s = true → (fch κ s = 101 ∨ fch κ s = 99) → nr κ s = (if fch κ s = 101 then 1 else 2) :: rr κ (s + 1) ∧ dr κ (s + 1) = dn κ s ∧ s + 1 < flm κ ∧ dov κ (s + 1) = dov κ s ∧ (if fch κ (s + 1) = 41 then dov κ (s + 1) else 0) = dn κ s)) (by decide +kernel) κ h s h8)
theorem tb_ex (κ : Nat) (h1 : κ < 24) (h3 : 3 ≤ κ) (s : Nat) (h8 : s < 8) (hs : s < flen κ) : (fch κ s = 101 ∨ fch κ s = 99) → nr κ s = (if fch κ s = 101 then 1 else 2) :: rr κ (s + 1) ∧ dr κ (s + 1) = dn κ s ∧ s + 1 < flm κ ∧ dov κ (s + 1) = dov κ s ∧ (if fch κ (s + 1) = 41 then dov κ (s + 1) else 0) = dn κ s := tb_ex' κ h1 s h8 (decide_eq_true ⟨h3, hs⟩)
theorem tb_x' : ∀ κ, κ < 24 → ∀ s, s < 8 → tbq κ s = true → fch κ s = 120 → dn κ s = dov κ s ∧ s + 1 < flm κ ∧ dov κ (s + 1) = dov κ s + 1 ∧ isCl κ = false ∧ ((κ = 11 ∨ κ = 21) → nr κ s = [5, lst κ, 8, 3] ∧ rr κ (s + 1) = [1, 10, lst κ, 8, 3] ∧ dr κ (s + 1) = dn κ s) ∧ (¬ (κ = 11 ∨ κ = 21) → nr κ s = 5 :: rr κ (s + 1) ∧ dr κ (s + 1) = dn κ s + 1) := fun κ h s h8 => of_decide_eq_true (chk2 (P := fun κ s => decide (tbq κ s = true → fch κ s = 120 → dn κ s = dov κ s ∧ s + 1 < flm κ ∧ dov κ (s + 1) = dov κ s + 1 ∧ isCl κ = false ∧ ((κ = 11 ∨ κ = 21) → nr κ s = [5, lst κ, 8, 3] ∧ rr κ (s + 1) = [1, 10, lst κ, 8, 3] ∧ dr κ (s + 1) = dn κ s) ∧ (¬ (κ = 11 ∨ κ = 21) → nr κ s = 5 :: rr κ (s + 1) ∧ dr κ (s + 1) = dn κ s + 1))) (by decide +kernel) κ h s h8)
theorem tb_x (κ : Nat) (h1 : κ < 24) (h3 : 3 ≤ κ) (s : Nat) (h8 : s < 8) (hs : s < flen κ) : fch κ s = 120 → dn κ s = dov κ s ∧ s + 1 < flm κ ∧ dov κ (s + 1) = dov κ s + 1 ∧ isCl κ = false ∧ ((κ = 11 ∨ κ = 21) → nr κ s = [5, lst κ, 8, 3] ∧ rr κ (s + 1) = [1, 10, lst κ, 8, 3] ∧ dr κ (s + 1) = dn κ s) ∧ (¬ (κ = 11 ∨ κ = 21) → nr κ s = 5 :: rr κ (s + 1) ∧ dr κ (s + 1) = dn κ s + 1) := tb_x' κ h1 s h8 (decide_eq_true ⟨h3, hs⟩)
theorem tb_y' : ∀ κ, κ < 24 → ∀ s, s < 8 → tbq κ s = true → fch κ s = 121 → dn κ s = dov κ s ∧ s + 1 < flm κ ∧ dov κ (s + 1) = dov κ s + 1 ∧ nr κ s = 6 :: rr κ (s + 1) ∧ dr κ (s + 1) = dn κ s + 1 := fun κ h s h8 => of_decide_eq_true (chk2 (P := fun κ s => decide (tbq κ s = true → fch κ s = 121 → dn κ s = dov κ s ∧ s + 1 < flm κ ∧ dov κ (s + 1) = dov κ s + 1 ∧ nr κ s = 6 :: rr κ (s + 1) ∧ dr κ (s + 1) = dn κ s + 1)) (by decide +kernel) κ h s h8)
theorem tb_y (κ : Nat) (h1 : κ < 24) (h3 : 3 ≤ κ) (s : Nat) (h8 : s < 8) (hs : s < flen κ) : fch κ s = 121 → dn κ s = dov κ s ∧ s + 1 < flm κ ∧ dov κ (s + 1) = dov κ s + 1 ∧ nr κ s = 6 :: rr κ (s + 1) ∧ dr κ (s + 1) = dn κ s + 1 := tb_y' κ h1 s h8 (decide_eq_true ⟨h3, hs⟩)
theorem tb_f' : ∀ κ, κ < 24 → ∀ s, s < 8 → tbq κ s = true → fch κ s = 102 → s + 1 < flm κ ∧ dov κ (s + 1) = dov κ s ∧ nr κ s = 9 :: rr κ (s + 1) ∧ dr κ (s + 1) = dn κ s := fun κ h s h8 => of_decide_eq_true (chk2 (P := fun κ s => decide (tbq κ s = true → fch κ s = 102 → s + 1 < flm κ ∧ dov κ (s + 1) = dov κ s ∧ nr κ s = 9 :: rr κ (s + 1) ∧ dr κ (s + 1) = dn κ s)) (by decide +kernel) κ h s h8)
theorem tb_f (κ : Nat) (h1 : κ < 24) (h3 : 3 ≤ κ) (s : Nat) (h8 : s < 8) (hs : s < flen κ) : fch κ s = 102 → s + 1 < flm κ ∧ dov κ (s + 1) = dov κ s ∧ nr κ s = 9 :: rr κ (s + 1) ∧ dr κ (s + 1) = dn κ s := tb_f' κ h1 s h8 (decide_eq_true ⟨h3, hs⟩)
theorem tb_o' : ∀ κ, κ < 24 → ∀ s, s < 8 → tbq κ s = true → fch κ s = 40 → s + 1 < flm κ ∧ dov κ (s + 1) = dov κ s ∧ nr κ s = 4 :: rr κ (s + 1) ∧ dr κ (s + 1) = dn κ s := fun κ h s h8 => of_decide_eq_true (chk2 (P := fun κ s => decide (tbq κ s = true → fch κ s = 40 → s + 1 < flm κ ∧ dov κ (s + 1) = dov κ s ∧ nr κ s = 4 :: rr κ (s + 1) ∧ dr κ (s + 1) = dn κ s)) (by decide +kernel) κ h s h8)
theorem tb_o (κ : Nat) (h1 : κ < 24) (h3 : 3 ≤ κ) (s : Nat) (h8 : s < 8) (hs : s < flen κ) : fch κ s = 40 → s + 1 < flm κ ∧ dov κ (s + 1) = dov κ s ∧ nr κ s = 4 :: rr κ (s + 1) ∧ dr κ (s + 1) = dn κ s := tb_o' κ h1 s h8 (decide_eq_true ⟨h3, hs⟩)
theorem tb_c' : ∀ κ, κ < 24 → ∀ s, s < 8 → tbq κ s = true → fch κ s = 41 → (isCl κ = false → flm κ = flen κ ∧ nr κ s = 3 :: rr κ (s + 1) ∧ dr κ (s + 1) = dn κ s ∧ dov κ (s + 1) = dov κ s ∧ (s + 1 = flen κ → rr κ (s + 1) = [] ∧ dn κ s = 0)) ∧ (isCl κ = true → s = 2 ∧ s + 1 = flen κ ∧ nr κ s = [7, 3] ∧ dn κ s = 0) := fun κ h s h8 => of_decide_eq_true (chk2 (P := fun κ s => decide (tbq κ s = true → fch κ s = 41 → (isCl κ = false → flm κ = flen κ ∧ nr κ s = 3 :: rr κ (s + 1) ∧ dr κ (s + 1) = dn κ s ∧ dov κ (s + 1) = dov κ s ∧ (s + 1 = flen κ → rr κ (s + 1) = [] ∧ dn κ s = 0)) ∧ (isCl κ = true → s = 2 ∧ s + 1 = flen κ ∧ nr κ s = [7, 3] ∧ dn κ s = 0))) (by decide +kernel) κ h s h8)
theorem tb_c (κ : Nat) (h1 : κ < 24) (h3 : 3 ≤ κ) (s : Nat) (h8 : s < 8) (hs : s < flen κ) : fch κ s = 41 → (isCl κ = false → flm κ = flen κ ∧ nr κ s = 3 :: rr κ (s + 1) ∧ dr κ (s + 1) = dn κ s ∧ dov κ (s + 1) = dov κ s ∧ (s + 1 = flen κ → rr κ (s + 1) = [] ∧ dn κ s = 0)) ∧ (isCl κ = true → s = 2 ∧ s + 1 = flen κ ∧ nr κ s = [7, 3] ∧ dn κ s = 0) := tb_c' κ h1 s h8 (decide_eq_true ⟨h3, hs⟩)
theorem tb_s' : ∀ κ, κ < 24 → ∀ s, s < 8 → tbq κ s = true → fch κ s = 42 → isCl κ = true ∧ s = 1 ∧ flen κ = 3 ∧ fch κ 2 = 41 ∧ nr κ 1 = [7, 3] ∧ rr κ 1 = [7, 3] ∧ dr κ 1 = 0 ∧ dn κ 1 = 0 ∧ dov κ 1 = 0 ∧ dov κ 2 = 0 := fun κ h s h8 => of_decide_eq_true (chk2 (P := fun κ s => decide (tbq κ s = true → fch κ s = 42 → isCl κ = true ∧ s = 1 ∧ flen κ = 3 ∧ fch κ 2 = 41 ∧ nr κ 1 = [7, 3] ∧ rr κ 1 = [7, 3] ∧ dr κ 1 = 0 ∧ dn κ 1 = 0 ∧ dov κ 1 = 0 ∧ dov κ 2 = 0)) (by decide +kernel) κ h s h8)
theorem tb_s (κ : Nat) (h1 : κ < 24) (h3 : 3 ≤ κ) (s : Nat) (h8 : s < 8) (hs : s < flen κ) : fch κ s = 42 → isCl κ = true ∧ s = 1 ∧ flen κ = 3 ∧ fch κ 2 = 41 ∧ nr κ 1 = [7, 3] ∧ rr κ 1 = [7, 3] ∧ dr κ 1 = 0 ∧ dn κ 1 = 0 ∧ dov κ 1 = 0 ∧ dov κ 2 = 0 := tb_s' κ h1 s h8 (decide_eq_true ⟨h3, hs⟩)
theorem tb_ch' : ∀ κ, κ < 24 → ∀ s, s < 8 → tbq κ s = true → fch κ s = 101 ∨ fch κ s = 99 ∨ fch κ s = 120 ∨ fch κ s = 121 ∨ fch κ s = 102 ∨ fch κ s = 40 ∨ fch κ s = 41 ∨ fch κ s = 42 := fun κ h s h8 => of_decide_eq_true (chk2 (P := fun κ s => decide (tbq κ s = true → fch κ s = 101 ∨ fch κ s = 99 ∨ fch κ s = 120 ∨ fch κ s = 121 ∨ fch κ s = 102 ∨ fch κ s = 40 ∨ fch κ s = 41 ∨ fch κ s = 42)) (by decide +kernel) κ h s h8)
theorem tb_ch (κ : Nat) (h1 : κ < 24) (h3 : 3 ≤ κ) (s : Nat) (h8 : s < 8) (hs : s < flen κ) : fch κ s = 101 ∨ fch κ s = 99 ∨ fch κ s = 120 ∨ fch κ s = 121 ∨ fch κ s = 102 ∨ fch κ s = 40 ∨ fch κ s = 41 ∨ fch κ s = 42 := tb_ch' κ h1 s h8 (decide_eq_true ⟨h3, hs⟩)
theorem tb_0 : ∀ κ, κ < 24 → 3 ≤ κ → dr κ 0 = 0 ∧ dov κ 0 = 0 ∧ 0 < flm κ := by decide +kernel
theorem dov_le : ∀ κ s, dr κ s ≤ dov κ s + 2 := by
  intro κ s
  have : dr κ s ≤ 2 := by
    unfold dr
    repeat' split
    all_goals decide
  omega
-- the model's row of what has to come
def Due (M : HS) : List (Nat × Int32) → Prop
  | [] => True
  | x :: l => gF M 229 l.length = nI x.1 ∧ gF M 230 l.length = x.2 ∧ Due M l
theorem Due.cg {M M' : HS} : ∀ {l : List (Nat × Int32)}, Due M l → (∀ k, k < l.length → gF M' 229 k = gF M 229 k ∧ gF M' 230 k = gF M 230 k) → Due M' l
  | [], _, _ => True.intro
  | x :: l, h, hk => by
    have := hk l.length (Nat.lt_succ_self _)
    exact ⟨this.1.trans h.1, this.2.trans h.2.1, Due.cg h.2.2 (fun k q => hk k (Nat.lt_succ_of_lt q))⟩
def row (k κ s : Nat) : List (Nat × Int32) := (rr κ s).map (fun w => (w, nI k))
def rows : List (Nat × Nat × Nat) → List (Nat × Int32)
  | [] => []
  | (k, κ, s) :: fs => row k κ s ++ rows fs
def thr (v0 : Nat) : List (Nat × Nat × Nat) → Nat
  | [] => v0
  | (_, κ, s) :: fs => thr v0 fs + dr κ s
/-- the component's open expressions -/
def SC (C : HS) (a v0 : Nat) : List (Nat × Nat × Nat) → Prop
  | [] => True
  | (k, κ, s) :: fs => (3 ≤ κ ∧ κ < 24 ∧ s < flm κ ∧ k < a) ∧ gF C (1001 + 2 * fs.length) 0 = nI k ∧ gX C (1001 + 2 * fs.length) 1 = some (fm κ) ∧ gF C (1001 + 2 * fs.length) 2 = nI s ∧ gF C (1001 + 2 * fs.length) 3 = nI (thr v0 fs + dov κ s) ∧ gF C (1000 + 2 * k) 0 = nI κ ∧ gF C (1000 + 2 * k) 5 = nI (thr v0 fs) ∧ thr v0 fs + dov κ s ≤ 24 ∧ SC C a v0 fs
theorem SC.cg {C C' : HS} {a a' v0 : Nat} (ha : a ≤ a') : ∀ {fs : List (Nat × Nat × Nat)}, SC C a v0 fs → (∀ i k, i < fs.length → gF C' (1001 + 2 * i) k = gF C (1001 + 2 * i) k ∧ gX C' (1001 + 2 * i) k = gX C (1001 + 2 * i) k) → (∀ j, j < a → gF C' (1000 + 2 * j) 0 = gF C (1000 + 2 * j) 0 ∧ gF C' (1000 + 2 * j) 5 = gF C (1000 + 2 * j) 5) → SC C' a' v0 fs
  | [], _, _, _ => True.intro
  | (k, κ, s) :: fs, h, h1, h2 => by
    obtain ⟨⟨b1, b2, b3, b4⟩, b5, b6, b7, b8, b9, b10, b11, b12⟩ := h
    have g := fun q => h1 fs.length q (Nat.lt_succ_self _)
    exact ⟨⟨b1, b2, b3, by omega⟩, (g 0).1.trans b5, (g 1).2.trans b6, (g 2).1.trans b7, (g 3).1.trans b8, (h2 k b4).1.trans b9, (h2 k b4).2.trans b10, b11, SC.cg ha b12 (fun i q hi => h1 i q (Nat.lt_succ_of_lt hi)) h2⟩
theorem SC.thr {C : HS} {a v0 : Nat} (h0 : v0 ≤ 24) : ∀ {fs : List (Nat × Nat × Nat)}, SC C a v0 fs → thr v0 fs ≤ 26
  | [], _ => by show v0 ≤ 26; omega
  | (k, κ, s) :: fs, h => by
    have := h.2.2.2.2.2.2.2.1
    have h2 := dov_le κ s
    show _ + dr κ s ≤ 26
    omega
theorem rows_len {C : HS} {a v0 : Nat} : ∀ {fs : List (Nat × Nat × Nat)}, SC C a v0 fs → (rows fs).length ≤ 9 * fs.length
  | [], _ => Nat.le_refl _
  | (k, κ, s) :: fs, h => by
    have h1 := tb_len κ h.1.2.1 s
    have h2 := rows_len h.2.2.2.2.2.2.2.2
    show (row k κ s ++ rows fs).length ≤ 9 * (fs.length + 1)
    rw [List.length_append]
    unfold row
    rw [List.length_map]
    omega
-- the pools
def PL (C : HS) (h g : Nat) : Prop := (∀ k, gX C 3 k = if k < h then some (1000 + 2 * k) else none) ∧ (∀ k, gD C (1000 + 2 * k) = decide (k < h)) ∧ (∀ k, gX C 5 k = if k < g then some (1001 + 2 * k) else none) ∧ (∀ k, gD C (1001 + 2 * k) = decide (k < g)) ∧ (∀ i, i < 198 → gD C i = true) ∧ gC C ≤ 1000 + (h + g) ∧ gN C ≤ 1000000 + 11 * (h + g)
theorem PL.cg {C C' : HS} {h g : Nat} (hP : PL C h g) (h3 : ∀ k, gX C' 3 k = gX C 3 k) (h5 : ∀ k, gX C' 5 k = gX C 5 k) (hD : C'.2.2.2 = C.2.2.2) : PL C' h g := by
  obtain ⟨a, b, c, d, e, f1, f2⟩ := hP
  have eD : ∀ i, gD C' i = gD C i := fun i => by unfold gD; rw [hD]
  exact ⟨fun k => (h3 k).trans (a k), fun k => (eD _).trans (b k), fun k => (h5 k).trans (c k), fun k => (eD _).trans (d k), fun i hi => (eD _).trans (e i hi), by unfold gC at f1 ⊢; rw [hD]; exact f1, by unfold gN at f2 ⊢; rw [hD]; exact f2⟩
/-- node j is the same in both -/
def NQ (C M : HS) (j : Nat) : Prop := gF M 220 j = gF C (1000 + 2 * j) 0 ∧ gF M 222 j = gF C (1000 + 2 * j) 3 ∧ gF M 221 j = gF C (1000 + 2 * j) 4 ∧ gF M 225 j = gF C (1000 + 2 * j) 5 ∧ gF M 223 j = gF C (1000 + 2 * j) 8 ∧ gF M 224 j = gF C (1000 + 2 * j) 9 ∧ gF M 226 j = gF C (1000 + 2 * j) 10 ∧ gL M 227 j = gL C (1000 + 2 * j) 6 ∧ gL M 228 j = gL C (1000 + 2 * j) 7
theorem NQ.cg {C C' M M' : HS} {j : Nat} (h : NQ C M j) (hC : ∀ k, k ≠ 1 → k ≠ 2 → gF C' (1000 + 2 * j) k = gF C (1000 + 2 * j) k) (hL : ∀ k, gL C' (1000 + 2 * j) k = gL C (1000 + 2 * j) k) (hM : ∀ i, 220 ≤ i → i ≤ 226 → gF M' i j = gF M i j) (hN : ∀ i, 227 ≤ i → i ≤ 228 → gL M' i j = gL M i j) : NQ C' M' j := by
  obtain ⟨a, b, c, d, e, f, g, i, k⟩ := h
  refine ⟨?_, ?_, ?_, ?_, ?_, ?_, ?_, ?_, ?_⟩
  · rw [hM _ (by decide) (by decide), hC _ (by decide) (by decide), a]
  · rw [hM _ (by decide) (by decide), hC _ (by decide) (by decide), b]
  · rw [hM _ (by decide) (by decide), hC _ (by decide) (by decide), c]
  · rw [hM _ (by decide) (by decide), hC _ (by decide) (by decide), d]
  · rw [hM _ (by decide) (by decide), hC _ (by decide) (by decide), e]
  · rw [hM _ (by decide) (by decide), hC _ (by decide) (by decide), f]
  · rw [hM _ (by decide) (by decide), hC _ (by decide) (by decide), g]
  · rw [hN _ (by decide) (by decide), hL, i]
  · rw [hN _ (by decide) (by decide), hL, k]
def TI (C : HS) (pr al pt : Nat → Nat) (j : Nat) : Prop := gF C (1000 + 2 * j) 4 = pI (pr j) ∧ gF C (1000 + 2 * j) 2 = nI (al j) ∧ gF C (1000 + 2 * j) 1 = nI (pt j)
def RB (C M : HS) (a h g : Nat) (pr al pt : Nat → Nat) (fs : List (Nat × Nat × Nat)) (v0 : Nat) : Prop :=
  PL C h g ∧ (a ≤ h ∧ fs.length ≤ g ∧ fs.length ≤ a ∧ v0 ≤ 24) ∧ gF C 0 2 = nI a ∧ gF M 200 19 = nI a ∧ (∀ j, j < a → NQ C M j) ∧ (∀ j, j < a → TI C pr al pt j) ∧ TR pr al pt a (fs.map Prod.fst) ∧ gF C 0 6 = nI fs.length ∧ SC C a v0 fs
theorem RB.cg {C C' M M' : HS} {a h g : Nat} {pr al pt : Nat → Nat} {fs : List (Nat × Nat × Nat)} {v0 : Nat} (hR : RB C M a h g pr al pt fs v0) (h2 : gF C' 0 2 = gF C 0 2) (h6 : gF C' 0 6 = gF C 0 6) (hF : ∀ i k, 1000 ≤ i → gF C' i k = gF C i k) (hL : ∀ i k, 1000 ≤ i → gL C' i k = gL C i k) (hX : ∀ i k, i = 3 ∨ i = 5 ∨ 1000 ≤ i → gX C' i k = gX C i k) (hD : C'.2.2.2 = C.2.2.2) (h19 : gF M' 200 19 = gF M 200 19) (hM : ∀ i k, 220 ≤ i → i ≤ 226 → gF M' i k = gF M i k) (hN : ∀ i k, 227 ≤ i → i ≤ 228 → gL M' i k = gL M i k) : RB C' M' a h g pr al pt fs v0 := by
  obtain ⟨r1, r2, r3, r4, r5, r6, r7, r8, r9⟩ := hR
  refine ⟨r1.cg (fun k => hX 3 k (Or.inl rfl)) (fun k => hX 5 k (Or.inr (Or.inl rfl))) hD, r2, h2.trans r3, h19.trans r4, fun j hj => (r5 j hj).cg (fun k _ _ => hF _ k (by omega)) (fun k => hL _ k (by omega)) (fun i q1 q2 => hM i j q1 q2) (fun i q1 q2 => hN i j q1 q2), fun j hj => ?_, r7, h6.trans r8, r9.cg (Nat.le_refl _) (fun i k _ => ⟨hF _ k (by omega), hX _ k (Or.inr (Or.inr (by omega)))⟩) (fun j _ => ⟨hF _ 0 (by omega), hF _ 5 (by omega)⟩)⟩
  obtain ⟨t1, t2, t3⟩ := r6 j hj
  exact ⟨(hF _ 4 (by omega)).trans t1, (hF _ 2 (by omega)).trans t2, (hF _ 1 (by omega)).trans t3⟩
theorem RB.frx {C C' M : HS} {a h g : Nat} {pr al pt : Nat → Nat} {fs : List (Nat × Nat × Nat)} {v0 : Nat} (hR : RB C M a h g pr al pt fs v0) (f : FrX C C') : RB C' M a h g pr al pt fs v0 :=
  hR.cg (f.1 0 2 (by decide)).1 (f.1 0 6 (by decide)).1 (fun i k hi => (f.1 i k (by omega)).1) (fun i k hi => (f.1 i k (by omega)).2.1) (fun i k hi => (f.1 i k (by omega)).2.2) f.2.2.2 rfl (fun _ _ _ _ => rfl) (fun _ _ _ _ => rfl)
theorem RB.frm {C M M' : HS} {a h g : Nat} {pr al pt : Nat → Nat} {fs : List (Nat × Nat × Nat)} {v0 : Nat} (hR : RB C M a h g pr al pt fs v0) (f : FrM M M') : RB C M' a h g pr al pt fs v0 :=
  hR.cg rfl rfl (fun _ _ _ => rfl) (fun _ _ _ => rfl) (fun _ _ _ => rfl) rfl (f.2.1 19 (by decide) (by decide) (by decide) (by decide) (by decide) (by decide)) (fun i k h1 h2 => (f.1 i k (by omega)).1) (fun i k h1 h2 => (f.1 i k (by omega)).2)
def RM (M : HS) (fs : List (Nat × Nat × Nat)) (v0 : Nat) : Prop := Due M (rows fs) ∧ gF M 200 31 = nI (rows fs).length ∧ gF M 200 32 = nI (thr v0 fs)
theorem RM.frm {M M' : HS} {fs : List (Nat × Nat × Nat)} {v0 : Nat} (h : RM M fs v0) (f : FrM M M') : RM M' fs v0 :=
  ⟨h.1.cg (fun k _ => ⟨(f.1 229 k (by decide)).1, (f.1 230 k (by decide)).1⟩), (f.2.1 31 (by decide) (by decide) (by decide) (by decide) (by decide) (by decide)).trans h.2.1, (f.2.1 32 (by decide) (by decide) (by decide) (by decide) (by decide) (by decide)).trans h.2.2⟩
-- what a body leaves as it is
def FC (C C' : HS) : Prop := (∀ i k, 2 ≤ i → i < 1000 → gF C' i k = gF C i k ∧ gL C' i k = gL C i k) ∧ gF C' 0 4 = gF C 0 4 ∧ gF C' 1 1 = gF C 1 1
theorem FC.rf {C : HS} : FC C C := ⟨fun _ _ _ _ => ⟨rfl, rfl⟩, rfl, rfl⟩
theorem FC.tr {A B C : HS} (h : FC A B) (k : FC B C) : FC A C := ⟨fun i q a b => ⟨(k.1 i q a b).1.trans (h.1 i q a b).1, (k.1 i q a b).2.trans (h.1 i q a b).2⟩, k.2.1.trans h.2.1, k.2.2.trans h.2.2⟩
theorem FC.frx {C C' : HS} (f : FrX C C') : FC C C' := ⟨fun i k h1 h2 => ⟨(f.1 i k (by omega)).1, (f.1 i k (by omega)).2.1⟩, (f.1 0 4 (by decide)).1, f.2.1⟩
theorem FC.fl {C : HS} {s q : Nat} : FC C (cfl C s q) := ⟨fun i k h1 h2 => ⟨by unfold cfl; rw [rF, if_neg (by omega), rF, if_neg (by omega)], rfl⟩, rfl, rfl⟩
def FM (M M' : HS) : Prop := (∀ i k, (i < 200 ∨ (201 ≤ i ∧ i ≤ 218) ∨ 231 ≤ i) → gF M' i k = gF M i k ∧ gL M' i k = gL M i k) ∧ (∀ k, k = 0 ∨ k = 2 ∨ k = 10 → gF M' 200 k = gF M 200 k) ∧ (∀ a k, gX M' a k = gX M a k) ∧ M'.2.2.2 = M.2.2.2
theorem FM.rf {M : HS} : FM M M := ⟨fun _ _ _ => ⟨rfl, rfl⟩, fun _ _ => rfl, fun _ _ => rfl, rfl⟩
theorem FM.tr {A B C : HS} (h : FM A B) (k : FM B C) : FM A C := ⟨fun i q a => ⟨(k.1 i q a).1.trans (h.1 i q a).1, (k.1 i q a).2.trans (h.1 i q a).2⟩, fun q z => (k.2.1 q z).trans (h.2.1 q z), fun i q => (k.2.2.1 i q).trans (h.2.2.1 i q), k.2.2.2.trans h.2.2.2⟩
theorem FM.frm {M M' : HS} (f : FrM M M') : FM M M' := ⟨fun i k h => ⟨(f.1 i k (by omega)).1, (f.1 i k (by omega)).2⟩, fun k h => f.2.1 k (by omega) (by omega) (by omega) (by omega) (by omega) (by omega), f.2.2.1, f.2.2.2⟩
theorem FM.sF {M : HS} {i k : Nat} {v : Int32} (h : (219 ≤ i ∧ i ≤ 230) ∨ (i = 200 ∧ k ≠ 0 ∧ k ≠ 2 ∧ k ≠ 10)) : FM M (sF M i k v) := ⟨fun a b q => ⟨by rw [rF, if_neg (by omega)], rfl⟩, fun b q => by rw [rF, if_neg (by omega)], fun _ _ => rfl, rfl⟩
theorem FM.sL {M : HS} {i k : Nat} {v : Int64} (h : 219 ≤ i ∧ i ≤ 230) : FM M (sL M i k v) := ⟨fun a b q => ⟨rfl, by rw [rL, if_neg (by omega)]⟩, fun b q => rfl, fun _ _ => rfl, rfl⟩
theorem FM.fl {M : HS} {s q : Nat} : FM M (mfl M s q) := (FM.sF (Or.inr ⟨rfl, by decide, by decide, by decide⟩)).tr (FM.sF (Or.inr ⟨rfl, by decide, by decide, by decide⟩))
/-- both have the same fault, and the component can go on -/
def FTR (C M : HS) (T : Nat → Int32) (n : Nat) : Prop := FT C M ∧ (∃ p, CV C T n p) ∧ ∃ h g, PL C h g ∧ h ≤ 600 ∧ g ≤ 600
def RW (C M : HS) (T : Nat → Int32) (n p a h g : Nat) (pr al pt : Nat → Nat) (fs : List (Nat × Nat × Nat)) (v0 : Nat) : Prop :=
  (CV C T n p ∧ LexM M T n p) ∧ (gF C 0 7 = 0 ∧ gF M 200 3 = 0 ∧ gF C 0 8 = -1 ∧ gF M 200 4 = -1) ∧ (a ≤ p ∧ h ≤ 600 ∧ g ≤ 600) ∧ RB C M a h g pr al pt fs v0 ∧ RM M fs v0
