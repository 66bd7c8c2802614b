-- THE PLAIN LAW begins: reading and writing a typed heap
abbrev FU : Nat := 10000
theorem rF (S : HS) (i k : Nat) (v : Int32) (j l : Nat) : gF (sF S i k v) j l = if j = i ∧ l = k then v else gF S j l := rfl
theorem rFL (S : HS) (i k : Nat) (v : Int64) (j l : Nat) : gF (sL S i k v) j l = gF S j l := rfl
theorem rFX (S : HS) (i k : Nat) (v : Option Nat) (j l : Nat) : gF (sX S i k v) j l = gF S j l := rfl
theorem rL (S : HS) (i k : Nat) (v : Int64) (j l : Nat) : gL (sL S i k v) j l = if j = i ∧ l = k then v else gL S j l := rfl
theorem rLF (S : HS) (i k : Nat) (v : Int32) (j l : Nat) : gL (sF S i k v) j l = gL S j l := rfl
theorem rLX (S : HS) (i k : Nat) (v : Option Nat) (j l : Nat) : gL (sX S i k v) j l = gL S j l := rfl
theorem rX (S : HS) (i k : Nat) (v : Option Nat) (j l : Nat) : gX (sX S i k v) j l = if j = i ∧ l = k then v else gX S j l := rfl
theorem rXF (S : HS) (i k : Nat) (v : Int32) (j l : Nat) : gX (sF S i k v) j l = gX S j l := rfl
theorem rXL (S : HS) (i k : Nat) (v : Int64) (j l : Nat) : gX (sL S i k v) j l = gX S j l := rfl
theorem rDF (S : HS) (i k : Nat) (v : Int32) (j : Nat) : gD (sF S i k v) j = gD S j := rfl
theorem rDL (S : HS) (i k : Nat) (v : Int64) (j : Nat) : gD (sL S i k v) j = gD S j := rfl
theorem rDX (S : HS) (i k : Nat) (v : Option Nat) (j : Nat) : gD (sX S i k v) j = gD S j := rfl
theorem lt_e {α β : Type} (v : α) (k : α → Option β) : lt v k = k v := rfl
theorem ob_s {α β : Type} (a : α) (k : α → Option β) : ob (some a) k = k a := rfl
theorem ob2_s {α β γ : Type} (a : α) (b : β) (k : α → β → Option γ) : ob2 (some (a, b)) k = k a b := rfl
theorem hs_ext {S S' : HS} (h1 : ∀ i k, gF S i k = gF S' i k) (h2 : ∀ i k, gL S i k = gL S' i k) (h3 : ∀ i k, gX S i k = gX S' i k) (h4 : S.2.2.2 = S'.2.2.2) : S = S' := by
  obtain ⟨a, b, c, d⟩ := S
  obtain ⟨a', b', c', d'⟩ := S'
  have e1 : a = a' := funext fun i => funext fun k => h1 i k
  have e2 : b = b' := funext fun i => funext fun k => h2 i k
  have e3 : c = c' := funext fun i => funext fun k => h3 i k
  have e4 : d = d' := h4
  rw [e1, e2, e3, e4]
theorem sF_id {S : HS} {i k : Nat} {v : Int32} (h : gF S i k = v) : sF S i k v = S := by
  refine hs_ext (fun a b => ?_) (fun _ _ => rfl) (fun _ _ => rfl) rfl
  rw [rF]
  split
  · rename_i e; rw [e.1, e.2, h]
  · rfl
theorem sF_sF (S : HS) (i k : Nat) (v w : Int32) : sF (sF S i k v) i k w = sF S i k w := by
  refine hs_ext (fun a b => ?_) (fun _ _ => rfl) (fun _ _ => rfl) rfl
  rw [rF, rF, rF]
  split <;> rfl
theorem sL_sL (S : HS) (i k : Nat) (v w : Int64) : sL (sL S i k v) i k w = sL S i k w := by
  refine hs_ext (fun _ _ => rfl) (fun a b => ?_) (fun _ _ => rfl) rfl
  rw [rL, rL, rL]
  split <;> rfl
theorem cl_n {j : Nat} (h : j < 2 ^ 31) : (nI j).toNatClampNeg = j := nI_clamp h
theorem in_n {j n : Nat} (h : j < n) (hn : n < 2 ^ 31) : inR (nI j) n := vp_in_nI h hn
-- the text: skipping blanks, the end of a run
def wsB (b : Int32) : Prop := b = 32 ∨ b = 10
def skF (T : Nat → Int32) : Nat → Nat → Nat
  | 0, i => i
  | f + 1, i => if T i = 32 ∨ T i = 10 then skF T f (i + 1) else i
def sk (T : Nat → Int32) (n i : Nat) : Nat := skF T (n - i) i
theorem sk_end (T : Nat → Int32) (n : Nat) : sk T n n = n := by unfold sk; rw [Nat.sub_self]; rfl
theorem sk_ws {T : Nat → Int32} {n i : Nat} (h : i < n) (hw : T i = 32 ∨ T i = 10) : sk T n i = sk T n (i + 1) := by
  unfold sk
  rw [show n - i = (n - (i + 1)) + 1 by omega]
  show (if T i = 32 ∨ T i = 10 then _ else _) = _
  rw [if_pos hw]
theorem sk_no {T : Nat → Int32} {n i : Nat} (h : i < n) (hw : ¬ (T i = 32 ∨ T i = 10)) : sk T n i = i := by
  unfold sk
  rw [show n - i = (n - (i + 1)) + 1 by omega]
  show (if T i = 32 ∨ T i = 10 then _ else _) = _
  rw [if_neg hw]
theorem sk_le {T : Nat → Int32} {n : Nat} : ∀ (f i : Nat), n - i = f → i ≤ n → i ≤ sk T n i ∧ sk T n i ≤ n ∧ (sk T n i = n ∨ ¬ (T (sk T n i) = 32 ∨ T (sk T n i) = 10))
  | 0, i, hf, hi => by
    have : i = n := by omega
    subst this
    rw [sk_end]
    exact ⟨Nat.le_refl _, Nat.le_refl _, Or.inl rfl⟩
  | f + 1, i, hf, hi => by
    by_cases hw : T i = 32 ∨ T i = 10
    · rw [sk_ws (by omega) hw]
      obtain ⟨h1, h2, h3⟩ := sk_le (T := T) (n := n) f (i + 1) (by omega) (by omega)
      exact ⟨by omega, h2, h3⟩
    · rw [sk_no (by omega) hw]
      exact ⟨Nat.le_refl _, hi, Or.inr hw⟩
def ofB (b : Int32) : Bool := decide ((97 ≤ b ∧ b ≤ 122) ∨ (48 ≤ b ∧ b ≤ 57) ∨ b = 45)
def rnF (T : Nat → Int32) : Nat → Nat → Nat
  | 0, i => i
  | f + 1, i => if ofB (T i) = true then rnF T f (i + 1) else i
def rn (T : Nat → Int32) (n i : Nat) : Nat := rnF T (n - i) i
theorem rn_end (T : Nat → Int32) (n : Nat) : rn T n n = n := by unfold rn; rw [Nat.sub_self]; rfl
theorem rn_of {T : Nat → Int32} {n i : Nat} (h : i < n) (hw : ofB (T i) = true) : rn T n i = rn T n (i + 1) := by
  unfold rn
  rw [show n - i = (n - (i + 1)) + 1 by omega]
  show (if ofB (T i) = true then _ else _) = _
  rw [if_pos hw]
theorem rn_no {T : Nat → Int32} {n i : Nat} (h : i < n) (hw : ¬ ofB (T i) = true) : rn T n i = i := by
  unfold rn
  rw [show n - i = (n - (i + 1)) + 1 by omega]
  show (if ofB (T i) = true then _ else _) = _
  rw [if_neg hw]
theorem rn_le {T : Nat → Int32} {n : Nat} : ∀ (f i : Nat), n - i = f → i ≤ n → i ≤ rn T n i ∧ rn T n i ≤ n ∧ ∀ q, i ≤ q → q < rn T n i → ofB (T q) = true
  | 0, i, hf, hi => by
    have : i = n := by omega
    subst this
    rw [rn_end]
    exact ⟨Nat.le_refl _, Nat.le_refl _, fun q h1 h2 => absurd h1 (by omega)⟩
  | f + 1, i, hf, hi => by
    by_cases hw : ofB (T i) = true
    · rw [rn_of (by omega) hw]
      obtain ⟨h1, h2, h3⟩ := rn_le (T := T) (n := n) f (i + 1) (by omega) (by omega)
      refine ⟨by omega, h2, fun q g1 g2 => ?_⟩
      by_cases e : q = i
      · rw [e]; exact hw
      · exact h3 q (by omega) g2
    · rw [rn_no (by omega) hw]
      exact ⟨Nat.le_refl _, hi, fun q h1 h2 => absurd h1 (by omega)⟩
-- the component's lexer over a text T of n bytes
def LexC (C : HS) (T : Nat → Int32) (n i : Nat) : Prop := gF C 1 1 = nI n ∧ gF C 1 2 = nI i ∧ i ≤ n ∧ n ≤ 4000 ∧ ∀ j, j < n → gF C 2 j = T j
theorem isOf_e (b : Int32) : f_X_isOf b = some (if ofB b = true then 1 else 0) := by
  unfold f_X_isOf f_X_isOf_b12 f_X_isOf_b24 ofB
  simp only [Int32.lt_iff_toInt_lt, Int32.le_iff_toInt_le, decide_eq_true_eq]
  have e1 : (97 : Int32).toInt = 97 := rfl
  have e2 : (122 : Int32).toInt = 122 := rfl
  have e3 : (48 : Int32).toInt = 48 := rfl
  have e4 : (57 : Int32).toInt = 57 := rfl
  by_cases h45 : b = 45
  · subst h45; decide
  · simp only [e1, e2, e3, e4, h45, or_false, if_false]
    repeat' split
    all_goals first | rfl | omega
theorem X_skip {T : Nat → Int32} {n : Nat} : ∀ (k i : Nat) (C : HS), LexC C T n i → n - i < k → f_X_next_b0 FU k C = f_X_next_b52 FU (sF C 1 2 (nI (sk T n i)))
  | 0, i, C, _, h => absurd h (by omega)
  | k + 1, i, C, hL, h => by
    obtain ⟨h1, h2, h3, h4, h5⟩ := id hL
    show f_X_next_b0B FU (f_X_next_b0 FU k) C = _
    unfold f_X_next_b0B
    by_cases e : i = n
    · simp only [h1, h2]
      rw [if_pos (by rw [e]; exact Int32.le_refl _), e, sk_end, ← e, sF_id h2]
    · have hlt : i < n := by omega
      have hc : (nI i).toNatClampNeg = i := cl_n (by omega)
      simp only [h1, h2, hc, h5 i hlt]
      rw [if_neg (nI_ge hlt (by omega)), gd_pos (in_n (by omega) (by omega))]
      have step : (T i = 32 ∨ T i = 10) → f_X_next_b39 FU (f_X_next_b0 FU k) C = f_X_next_b52 FU (sF C 1 2 (nI (sk T n i))) := by
        intro hw
        unfold f_X_next_b39
        rw [lt_e, h2, nI_1, X_skip k (i + 1) (sF C 1 2 (nI (i + 1))) ⟨h1, rfl, by omega, h4, h5⟩ (by omega), sF_sF, sk_ws hlt hw]
      by_cases hw : T i = 32
      · rw [if_pos hw]; exact step (Or.inl hw)
      · rw [if_neg hw, gd_pos (in_n (by omega) (by omega))]
        by_cases hv : T i = 10
        · rw [if_pos hv]; exact step (Or.inr hv)
        · rw [if_neg hv, sk_no hlt (by rintro (q | q) <;> contradiction), sF_id h2]
theorem X_run {T : Nat → Int32} {n : Nat} (x1 : Int32) : ∀ (k i : Nat) (C : HS), LexC C T n i → n - i < k → f_X_next_b131 FU k x1 C = f_X_next_b170 FU x1 (sF C 1 2 (nI (rn T n i)))
  | 0, i, C, _, h => absurd h (by omega)
  | k + 1, i, C, hL, h => by
    obtain ⟨h1, h2, h3, h4, h5⟩ := id hL
    show f_X_next_b131B FU (f_X_next_b131 FU k) x1 C = _
    unfold f_X_next_b131B
    by_cases e : i = n
    · simp only [h1, h2]
      rw [if_pos (by rw [e]; exact Int32.le_refl _), e, rn_end, ← e, sF_id h2]
    · have hlt : i < n := by omega
      have hc : (nI i).toNatClampNeg = i := cl_n (by omega)
      simp only [h1, h2, hc, h5 i hlt, isOf_e, ob_s]
      rw [if_neg (nI_ge hlt (by omega)), gd_pos (in_n (by omega) (by omega))]
      by_cases hw : ofB (T i) = true
      · rw [if_pos hw, if_neg (by decide), lt_e, nI_1, X_run x1 k (i + 1) (sF C 1 2 (nI (i + 1))) ⟨h1, rfl, by omega, h4, h5⟩ (by omega), sF_sF, rn_of hlt hw]
      · rw [if_neg hw, if_pos rfl, rn_no hlt hw, sF_id h2]
