-- printed by gen/walk2.py
set_option maxHeartbeats 4000000 in
set_option maxRecDepth 100000 in
theorem k_X_spell_58 {n : Nat} {kc : Int32 → Int32 → HS → Option (Nat × HS)} {r : Nat} {S' : HS} (hkm : ∀ (x1 : Int32) (x2 : Int32) (S : HS), kc x1 x2 S = some (r, S') → S'.2.2.2 = S.2.2.2) {x2 : Int32} {y0 : Int32} {S : HS} (h : f_X_spell_b58 n kc x2 y0 S = some (r, S')) : S'.2.2.2 = S.2.2.2 := by
  unfold f_X_spell_b58 at h
  have hm : S.2.2.2 = S.2.2.2 := rfl
  obtain ⟨v5, ev5, h⟩ := lt_some h
  obtain ⟨g6, h⟩ := gd_some h
  obtain ⟨S7, eS7, h⟩ := lt_some h
  have hm := (show S7.2.2.2 = S.2.2.2 from by rw [eS7]; rfl).trans hm
  obtain ⟨v8, ev8, h⟩ := lt_some h
  exact (hkm _ _ _ h).trans hm
set_option maxHeartbeats 4000000 in
set_option maxRecDepth 100000 in
theorem k_X_spell_89 {n : Nat} {r : Nat} {S' : HS} {x1 : Int32} {S : HS} (h : f_X_spell_b89 n x1 S = some (r, S')) : S'.2.2.2 = S.2.2.2 := by
  unfold f_X_spell_b89 at h
  have hm : S.2.2.2 = S.2.2.2 := rfl
  rcases ite_or h with ⟨c90, h⟩ | ⟨c90, h⟩
  · obtain ⟨hr1, hr2⟩ := Prod.mk.inj (Option.some.inj h)
    subst hr1
    subst hr2
    exact hm
  · obtain ⟨hr1, hr2⟩ := Prod.mk.inj (Option.some.inj h)
    subst hr1
    subst hr2
    exact hm
set_option maxHeartbeats 4000000 in
set_option maxRecDepth 100000 in
theorem k_X_spell_30B {n : Nat} {kc : Int32 → Int32 → HS → Option (Nat × HS)} {r : Nat} {S' : HS} (hkm : ∀ (x1 : Int32) (x2 : Int32) (S : HS), kc x1 x2 S = some (r, S') → S'.2.2.2 = S.2.2.2) {x1 : Int32} {x2 : Int32} {S : HS} (h : f_X_spell_b30B n kc x1 x2 S = some (r, S')) : S'.2.2.2 = S.2.2.2 := by
  unfold f_X_spell_b30B at h
  have hm : S.2.2.2 = S.2.2.2 := rfl
  rcases ite_or h with ⟨c35, h⟩ | ⟨c35, h⟩
  · exact (k_X_spell_89 h).trans hm
  · rcases ite_or h with ⟨c39, h⟩ | ⟨c39, h⟩
    · exact (k_X_spell_89 h).trans hm
    · obtain ⟨g4, h⟩ := gd_some h
      rcases ite_or h with ⟨c50, h⟩ | ⟨c50, h⟩
      · exact (k_X_spell_58 hkm h).trans hm
      · exact (k_X_spell_58 hkm h).trans hm
set_option maxHeartbeats 4000000 in
set_option maxRecDepth 100000 in
theorem k_X_spell_30 {n : Nat} (k : Nat) {r : Nat} {S' : HS} : ∀ {x1 : Int32} {x2 : Int32} {S : HS}, f_X_spell_b30 n k x1 x2 S = some (r, S') → S'.2.2.2 = S.2.2.2 := by
  induction k with
  | zero => intro x1 x2 S h; cases h
  | succ k ih => intro x1 x2 S h; exact k_X_spell_30B (n := n) (kc := f_X_spell_b30 n k) (fun x1 x2 S h => ih h) h
set_option maxHeartbeats 4000000 in
set_option maxRecDepth 100000 in
theorem k_X_spell_24 {n : Nat} {r : Nat} {S' : HS} {y0 : Int32} {S : HS} (h : f_X_spell_b24 n y0 S = some (r, S')) : S'.2.2.2 = S.2.2.2 := by
  unfold f_X_spell_b24 at h
  have hm : S.2.2.2 = S.2.2.2 := rfl
  obtain ⟨v2, ev2, h⟩ := lt_some h
  obtain ⟨v3, ev3, h⟩ := lt_some h
  exact (k_X_spell_30 n h).trans hm
set_option maxHeartbeats 4000000 in
set_option maxRecDepth 100000 in
theorem k_X_spell {n : Nat} {S : HS} {r : Nat} {S' : HS} (h : f_X_spell n S = some (r, S')) : S'.2.2.2 = S.2.2.2 := by
  unfold f_X_spell at h
  have hm : S.2.2.2 = S.2.2.2 := rfl
  obtain ⟨S1, eS1, h⟩ := lt_some h
  have hm := (show S1.2.2.2 = S.2.2.2 from by rw [eS1]; rfl).trans hm
  rcases ite_or h with ⟨c16, h⟩ | ⟨c16, h⟩
  · exact (k_X_spell_24 h).trans hm
  · exact (k_X_spell_24 h).trans hm
set_option maxHeartbeats 4000000 in
set_option maxRecDepth 100000 in
theorem k_X_count_143 {n : Nat} {kc : Int32 → Int64 → Int32 → Int32 → HS → Option (Nat × HS)} {r : Nat} {S' : HS} (hkm : ∀ (x1 : Int32) (x2 : Int64) (x5 : Int32) (x6 : Int32) (S : HS), kc x1 x2 x5 x6 S = some (r, S') → S'.2.2.2 = S.2.2.2) {x1 : Int32} {x2 : Int64} {x6 : Int32} {y0 : Int32} {S : HS} (h : f_X_count_b143 n kc x1 x2 x6 y0 S = some (r, S')) : S'.2.2.2 = S.2.2.2 := by
  unfold f_X_count_b143 at h
  have hm : S.2.2.2 = S.2.2.2 := rfl
  obtain ⟨v14, ev14, h⟩ := lt_some h
  obtain ⟨v15, ev15, h⟩ := lt_some h
  exact (hkm _ _ _ _ _ h).trans hm
set_option maxHeartbeats 4000000 in
set_option maxRecDepth 100000 in
theorem k_X_count_142 {n : Nat} {kc : Int32 → Int64 → Int32 → Int32 → HS → Option (Nat × HS)} {r : Nat} {S' : HS} (hkm : ∀ (x1 : Int32) (x2 : Int64) (x5 : Int32) (x6 : Int32) (S : HS), kc x1 x2 x5 x6 S = some (r, S') → S'.2.2.2 = S.2.2.2) {x1 : Int32} {x2 : Int64} {x6 : Int32} {S : HS} (h : f_X_count_b142 n kc x1 x2 x6 S = some (r, S')) : S'.2.2.2 = S.2.2.2 := by
  unfold f_X_count_b142 at h
  have hm : S.2.2.2 = S.2.2.2 := rfl
  exact (k_X_count_143 hkm h).trans hm
set_option maxHeartbeats 4000000 in
set_option maxRecDepth 100000 in
theorem k_X_count_104 {n : Nat} {kc : Int32 → Int64 → Int32 → Int32 → HS → Option (Nat × HS)} {r : Nat} {S' : HS} (hkm : ∀ (x1 : Int32) (x2 : Int64) (x5 : Int32) (x6 : Int32) (S : HS), kc x1 x2 x5 x6 S = some (r, S') → S'.2.2.2 = S.2.2.2) {x1 : Int32} {x2 : Int64} {x6 : Int32} {y0 : Int32} {S : HS} (h : f_X_count_b104 n kc x1 x2 x6 y0 S = some (r, S')) : S'.2.2.2 = S.2.2.2 := by
  unfold f_X_count_b104 at h
  have hm : S.2.2.2 = S.2.2.2 := rfl
  obtain ⟨v9, ev9, h⟩ := lt_some h
  obtain ⟨g10, h⟩ := gd_some h
  obtain ⟨v11, ev11, h⟩ := lt_some h
  rcases ite_or h with ⟨c127, h⟩ | ⟨c127, h⟩
  · exact (k_X_count_142 hkm h).trans hm
  · rcases ite_or h with ⟨c135, h⟩ | ⟨c135, h⟩
    · exact (k_X_count_142 hkm h).trans hm
    · exact (k_X_count_143 hkm h).trans hm
set_option maxHeartbeats 4000000 in
set_option maxRecDepth 100000 in
theorem k_X_count_103 {n : Nat} {kc : Int32 → Int64 → Int32 → Int32 → HS → Option (Nat × HS)} {r : Nat} {S' : HS} (hkm : ∀ (x1 : Int32) (x2 : Int64) (x5 : Int32) (x6 : Int32) (S : HS), kc x1 x2 x5 x6 S = some (r, S') → S'.2.2.2 = S.2.2.2) {x1 : Int32} {x2 : Int64} {x6 : Int32} {S : HS} (h : f_X_count_b103 n kc x1 x2 x6 S = some (r, S')) : S'.2.2.2 = S.2.2.2 := by
  unfold f_X_count_b103 at h
  have hm : S.2.2.2 = S.2.2.2 := rfl
  exact (k_X_count_104 hkm h).trans hm
set_option maxHeartbeats 4000000 in
set_option maxRecDepth 100000 in
theorem k_X_count_161 {n : Nat} {r : Nat} {S' : HS} {x5 : Int32} {y0 : Int64} {S : HS} (h : f_X_count_b161 n x5 y0 S = some (r, S')) : S'.2.2.2 = S.2.2.2 := by
  unfold f_X_count_b161 at h
  have hm : S.2.2.2 = S.2.2.2 := rfl
  obtain ⟨v12, ev12, h⟩ := lt_some h
  obtain ⟨S13, eS13, h⟩ := lt_some h
  have hm := (show S13.2.2.2 = S.2.2.2 from by rw [eS13]; rfl).trans hm
  rcases ite_or h with ⟨c170, h⟩ | ⟨c170, h⟩
  · obtain ⟨hr1, hr2⟩ := Prod.mk.inj (Option.some.inj h)
    subst hr1
    subst hr2
    exact hm
  · rcases ite_or h with ⟨c178, h⟩ | ⟨c178, h⟩
    · obtain ⟨hr1, hr2⟩ := Prod.mk.inj (Option.some.inj h)
      subst hr1
      subst hr2
      exact hm
    · obtain ⟨hr1, hr2⟩ := Prod.mk.inj (Option.some.inj h)
      subst hr1
      subst hr2
      exact hm
set_option maxHeartbeats 4000000 in
set_option maxRecDepth 100000 in
theorem k_X_count_151 {n : Nat} {r : Nat} {S' : HS} {x1 : Int32} {x2 : Int64} {x5 : Int32} {S : HS} (h : f_X_count_b151 n x1 x2 x5 S = some (r, S')) : S'.2.2.2 = S.2.2.2 := by
  unfold f_X_count_b151 at h
  have hm : S.2.2.2 = S.2.2.2 := rfl
  rcases ite_or h with ⟨c152, h⟩ | ⟨c152, h⟩
  · exact (k_X_count_161 h).trans hm
  · exact (k_X_count_161 h).trans hm
set_option maxHeartbeats 4000000 in
set_option maxRecDepth 100000 in
theorem k_X_count_61B {n : Nat} {kc : Int32 → Int64 → Int32 → Int32 → HS → Option (Nat × HS)} {r : Nat} {S' : HS} (hkm : ∀ (x1 : Int32) (x2 : Int64) (x5 : Int32) (x6 : Int32) (S : HS), kc x1 x2 x5 x6 S = some (r, S') → S'.2.2.2 = S.2.2.2) {x1 : Int32} {x2 : Int64} {x5 : Int32} {x6 : Int32} {S : HS} (h : f_X_count_b61B n kc x1 x2 x5 x6 S = some (r, S')) : S'.2.2.2 = S.2.2.2 := by
  unfold f_X_count_b61B at h
  have hm : S.2.2.2 = S.2.2.2 := rfl
  rcases ite_or h with ⟨c67, h⟩ | ⟨c67, h⟩
  · exact (k_X_count_151 h).trans hm
  · rcases ite_or h with ⟨c72, h⟩ | ⟨c72, h⟩
    · exact (k_X_count_151 h).trans hm
    · obtain ⟨g7, h⟩ := gd_some h
      rcases ite_or h with ⟨c84, h⟩ | ⟨c84, h⟩
      · exact (k_X_count_103 hkm h).trans hm
      · obtain ⟨g8, h⟩ := gd_some h
        rcases ite_or h with ⟨c96, h⟩ | ⟨c96, h⟩
        · exact (k_X_count_103 hkm h).trans hm
        · exact (k_X_count_104 hkm h).trans hm
set_option maxHeartbeats 4000000 in
set_option maxRecDepth 100000 in
theorem k_X_count_61 {n : Nat} (k : Nat) {r : Nat} {S' : HS} : ∀ {x1 : Int32} {x2 : Int64} {x5 : Int32} {x6 : Int32} {S : HS}, f_X_count_b61 n k x1 x2 x5 x6 S = some (r, S') → S'.2.2.2 = S.2.2.2 := by
  induction k with
  | zero => intro x1 x2 x5 x6 S h; cases h
  | succ k ih => intro x1 x2 x5 x6 S h; exact k_X_count_61B (n := n) (kc := f_X_count_b61 n k) (fun x1 x2 x5 x6 S h => ih h) h
set_option maxHeartbeats 4000000 in
set_option maxRecDepth 100000 in
theorem k_X_count_55 {n : Nat} {r : Nat} {S' : HS} {x1 : Int32} {x2 : Int64} {x4 : Int32} {y0 : Int32} {S : HS} (h : f_X_count_b55 n x1 x2 x4 y0 S = some (r, S')) : S'.2.2.2 = S.2.2.2 := by
  unfold f_X_count_b55 at h
  have hm : S.2.2.2 = S.2.2.2 := rfl
  obtain ⟨v5, ev5, h⟩ := lt_some h
  obtain ⟨v6, ev6, h⟩ := lt_some h
  exact (k_X_count_61 n h).trans hm
set_option maxHeartbeats 4000000 in
set_option maxRecDepth 100000 in
theorem k_X_count_39 {n : Nat} {r : Nat} {S' : HS} {x1 : Int32} {x2 : Int64} {y0 : Int32} {S : HS} (h : f_X_count_b39 n x1 x2 y0 S = some (r, S')) : S'.2.2.2 = S.2.2.2 := by
  unfold f_X_count_b39 at h
  have hm : S.2.2.2 = S.2.2.2 := rfl
  obtain ⟨v4, ev4, h⟩ := lt_some h
  rcases ite_or h with ⟨c47, h⟩ | ⟨c47, h⟩
  · exact (k_X_count_55 h).trans hm
  · exact (k_X_count_55 h).trans hm
set_option maxHeartbeats 4000000 in
set_option maxRecDepth 100000 in
theorem k_X_count_19 {n : Nat} {r : Nat} {S' : HS} {y0 : Int32} {S : HS} (h : f_X_count_b19 n y0 S = some (r, S')) : S'.2.2.2 = S.2.2.2 := by
  unfold f_X_count_b19 at h
  have hm : S.2.2.2 = S.2.2.2 := rfl
  obtain ⟨v2, ev2, h⟩ := lt_some h
  obtain ⟨v3, ev3, h⟩ := lt_some h
  rcases ite_or h with ⟨c23, h⟩ | ⟨c23, h⟩
  · exact (k_X_count_39 h).trans hm
  · exact (k_X_count_39 h).trans hm
set_option maxHeartbeats 4000000 in
set_option maxRecDepth 100000 in
theorem k_X_count {n : Nat} {S : HS} {r : Nat} {S' : HS} (h : f_X_count n S = some (r, S')) : S'.2.2.2 = S.2.2.2 := by
  unfold f_X_count at h
  have hm : S.2.2.2 = S.2.2.2 := rfl
  obtain ⟨g1, h⟩ := gd_some h
  rcases ite_or h with ⟨c11, h⟩ | ⟨c11, h⟩
  · exact (k_X_count_19 h).trans hm
  · exact (k_X_count_19 h).trans hm
set_option maxHeartbeats 4000000 in
set_option maxRecDepth 100000 in
theorem k_X_next_39 {n : Nat} {kc : HS → Option HS} {S' : HS} (hkm : ∀ (S : HS), kc S = some S' → S'.2.2.2 = S.2.2.2) {S : HS} (h : f_X_next_b39 n kc S = some S') : S'.2.2.2 = S.2.2.2 := by
  unfold f_X_next_b39 at h
  have hm : S.2.2.2 = S.2.2.2 := rfl
  obtain ⟨S7, eS7, h⟩ := lt_some h
  have hm := (show S7.2.2.2 = S.2.2.2 from by rw [eS7]; rfl).trans hm
  exact (hkm _ h).trans hm
set_option maxHeartbeats 4000000 in
set_option maxRecDepth 100000 in
theorem k_X_next_117 {n : Nat} {S' : HS} {y0 : Nat} {S : HS} (h : f_X_next_b117 n y0 S = some S') : S'.2.2.2 = S.2.2.2 := by
  unfold f_X_next_b117 at h
  have hm : S.2.2.2 = S.2.2.2 := rfl
  obtain ⟨g12, h⟩ := gd_some h
  obtain ⟨S11, eS11, h⟩ := lt_some h
  have hm := (show S11.2.2.2 = S.2.2.2 from by rw [eS11]; rfl).trans hm
  obtain ⟨S13, eS13, h⟩ := lt_some h
  have hm := (show S13.2.2.2 = S11.2.2.2 from by rw [eS13]; rfl).trans hm
  have h := Option.some.inj h
  subst h
  exact hm
set_option maxHeartbeats 4000000 in
set_option maxRecDepth 100000 in
theorem k_X_next_101 {n : Nat} {S' : HS} {x1 : Int32} {S : HS} (h : f_X_next_b101 n x1 S = some S') : S'.2.2.2 = S.2.2.2 := by
  unfold f_X_next_b101 at h
  have hm : S.2.2.2 = S.2.2.2 := rfl
  rcases ite_or h with ⟨c105, h⟩ | ⟨c105, h⟩
  · exact (k_X_next_117 h).trans hm
  · exact (k_X_next_117 h).trans hm
set_option maxHeartbeats 4000000 in
set_option maxRecDepth 100000 in
theorem k_X_next_205 {n : Nat} {S' : HS} {y0 : Nat} {S : HS} (h : f_X_next_b205 n y0 S = some S') : S'.2.2.2 = S.2.2.2 := by
  unfold f_X_next_b205 at h
  have hm : S.2.2.2 = S.2.2.2 := rfl
  obtain ⟨g19, h⟩ := gd_some h
  obtain ⟨S18, eS18, h⟩ := lt_some h
  have hm := (show S18.2.2.2 = S.2.2.2 from by rw [eS18]; rfl).trans hm
  have h := Option.some.inj h
  subst h
  exact hm
set_option maxHeartbeats 4000000 in
set_option maxRecDepth 100000 in
theorem k_X_next_170 {n : Nat} {S' : HS} {x1 : Int32} {S : HS} (h : f_X_next_b170 n x1 S = some S') : S'.2.2.2 = S.2.2.2 := by
  unfold f_X_next_b170 at h
  have hm : S.2.2.2 = S.2.2.2 := rfl
  rcases ite_or h with ⟨c179, h⟩ | ⟨c179, h⟩
  · exact (k_X_next_205 h).trans hm
  · rcases ite_or h with ⟨c191, h⟩ | ⟨c191, h⟩
    · obtain ⟨r15, S14, eS14, h⟩ := ob2_some h
      have hm := (show S14.2.2.2 = S.2.2.2 from k_X_count eS14).trans hm
      exact (k_X_next_205 h).trans hm
    · obtain ⟨r17, S16, eS16, h⟩ := ob2_some h
      have hm := (show S16.2.2.2 = S.2.2.2 from k_X_spell eS16).trans hm
      exact (k_X_next_205 h).trans hm
set_option maxHeartbeats 4000000 in
set_option maxRecDepth 100000 in
theorem k_X_next_131B {n : Nat} {kc : Int32 → HS → Option HS} {S' : HS} (hkm : ∀ (x1 : Int32) (S : HS), kc x1 S = some S' → S'.2.2.2 = S.2.2.2) {x1 : Int32} {S : HS} (h : f_X_next_b131B n kc x1 S = some S') : S'.2.2.2 = S.2.2.2 := by
  unfold f_X_next_b131B at h
  have hm : S.2.2.2 = S.2.2.2 := rfl
  rcases ite_or h with ⟨c139, h⟩ | ⟨c139, h⟩
  · exact (k_X_next_170 h).trans hm
  · obtain ⟨g8, h⟩ := gd_some h
    obtain ⟨r9, er9, h⟩ := ob_some h
    rcases ite_or h with ⟨c154, h⟩ | ⟨c154, h⟩
    · exact (k_X_next_170 h).trans hm
    · obtain ⟨S10, eS10, h⟩ := lt_some h
      have hm := (show S10.2.2.2 = S.2.2.2 from by rw [eS10]; rfl).trans hm
      exact (hkm _ _ h).trans hm
set_option maxHeartbeats 4000000 in
set_option maxRecDepth 100000 in
theorem k_X_next_131 {n : Nat} (k : Nat) {S' : HS} : ∀ {x1 : Int32} {S : HS}, f_X_next_b131 n k x1 S = some S' → S'.2.2.2 = S.2.2.2 := by
  induction k with
  | zero => intro x1 S h; cases h
  | succ k ih => intro x1 S h; exact k_X_next_131B (n := n) (kc := f_X_next_b131 n k) (fun x1 S h => ih h) h
set_option maxHeartbeats 4000000 in
set_option maxRecDepth 100000 in
theorem k_X_next_52 {n : Nat} {S' : HS} {S : HS} (h : f_X_next_b52 n S = some S') : S'.2.2.2 = S.2.2.2 := by
  unfold f_X_next_b52 at h
  have hm : S.2.2.2 = S.2.2.2 := rfl
  obtain ⟨S3, eS3, h⟩ := lt_some h
  have hm := (show S3.2.2.2 = S.2.2.2 from by rw [eS3]; rfl).trans hm
  rcases ite_or h with ⟨c68, h⟩ | ⟨c68, h⟩
  · obtain ⟨S6, eS6, h⟩ := lt_some h
    have hm := (show S6.2.2.2 = S3.2.2.2 from by rw [eS6]; rfl).trans hm
    have h := Option.some.inj h
    subst h
    exact hm
  · obtain ⟨g4, h⟩ := gd_some h
    obtain ⟨v5, ev5, h⟩ := lt_some h
    rcases ite_or h with ⟨c92, h⟩ | ⟨c92, h⟩
    · exact (k_X_next_101 h).trans hm
    · rcases ite_or h with ⟨c98, h⟩ | ⟨c98, h⟩
      · exact (k_X_next_101 h).trans hm
      · exact (k_X_next_131 n h).trans hm
set_option maxHeartbeats 4000000 in
set_option maxRecDepth 100000 in
theorem k_X_next_0B {n : Nat} {kc : HS → Option HS} {S' : HS} (hkm : ∀ (S : HS), kc S = some S' → S'.2.2.2 = S.2.2.2) {S : HS} (h : f_X_next_b0B n kc S = some S') : S'.2.2.2 = S.2.2.2 := by
  unfold f_X_next_b0B at h
  have hm : S.2.2.2 = S.2.2.2 := rfl
  rcases ite_or h with ⟨c8, h⟩ | ⟨c8, h⟩
  · exact (k_X_next_52 h).trans hm
  · obtain ⟨g1, h⟩ := gd_some h
    rcases ite_or h with ⟨c22, h⟩ | ⟨c22, h⟩
    · exact (k_X_next_39 hkm h).trans hm
    · obtain ⟨g2, h⟩ := gd_some h
      rcases ite_or h with ⟨c36, h⟩ | ⟨c36, h⟩
      · exact (k_X_next_39 hkm h).trans hm
      · exact (k_X_next_52 h).trans hm
set_option maxHeartbeats 4000000 in
set_option maxRecDepth 100000 in
theorem k_X_next_0 {n : Nat} (k : Nat) {S' : HS} : ∀ {S : HS}, f_X_next_b0 n k S = some S' → S'.2.2.2 = S.2.2.2 := by
  induction k with
  | zero => intro S h; cases h
  | succ k ih => intro S h; exact k_X_next_0B (n := n) (kc := f_X_next_b0 n k) (fun S h => ih h) h
set_option maxHeartbeats 4000000 in
set_option maxRecDepth 100000 in
theorem k_X_next {n : Nat} {S : HS} {S' : HS} (h : f_X_next n S = some S') : S'.2.2.2 = S.2.2.2 := by
  unfold f_X_next at h
  have hm : S.2.2.2 = S.2.2.2 := rfl
  exact (k_X_next_0 n h).trans hm
set_option maxHeartbeats 4000000 in
set_option maxRecDepth 100000 in
theorem k_X_begin {n : Nat} {S : HS} {S' : HS} (h : f_X_begin n S = some S') : S'.2.2.2 = S.2.2.2 := by
  unfold f_X_begin at h
  have hm : S.2.2.2 = S.2.2.2 := rfl
  obtain ⟨S1, eS1, h⟩ := lt_some h
  have hm := (show S1.2.2.2 = S.2.2.2 from by rw [eS1]; rfl).trans hm
  obtain ⟨S2, eS2, h⟩ := ob_some h
  have hm := (show S2.2.2.2 = S1.2.2.2 from k_X_next eS2).trans hm
  have h := Option.some.inj h
  subst h
  exact hm
set_option maxHeartbeats 4000000 in
set_option maxRecDepth 100000 in
theorem k_P_refuse_43 {S' : HS} {y0 : Int32} {S : HS} (h : f_P_refuse_b43 y0 S = some S') : S'.2.2.2 = S.2.2.2 := by
  unfold f_P_refuse_b43 at h
  have hm : S.2.2.2 = S.2.2.2 := rfl
  obtain ⟨S5, eS5, h⟩ := lt_some h
  have hm := (show S5.2.2.2 = S.2.2.2 from by rw [eS5]; rfl).trans hm
  obtain ⟨S6, eS6, h⟩ := lt_some h
  have hm := (show S6.2.2.2 = S5.2.2.2 from by rw [eS6]; rfl).trans hm
  have h := Option.some.inj h
  subst h
  exact hm
set_option maxHeartbeats 4000000 in
set_option maxRecDepth 100000 in
theorem k_P_refuse {S : HS} {S' : HS} (h : f_P_refuse S = some S') : S'.2.2.2 = S.2.2.2 := by
  unfold f_P_refuse at h
  have hm : S.2.2.2 = S.2.2.2 := rfl
  rcases ite_or h with ⟨c4, h⟩ | ⟨c4, h⟩
  · obtain ⟨j1, ej1, h⟩ := ob_some h
    obtain ⟨g2, h⟩ := gd_some h
    rcases ite_or h with ⟨c18, h⟩ | ⟨c18, h⟩
    · exact (k_P_refuse_43 h).trans hm
    · obtain ⟨j3, ej3, h⟩ := ob_some h
      obtain ⟨g4, h⟩ := gd_some h
      rcases ite_or h with ⟨c35, h⟩ | ⟨c35, h⟩
      · exact (k_P_refuse_43 h).trans hm
      · exact (k_P_refuse_43 h).trans hm
  · have h := Option.some.inj h
    subst h
    exact hm
set_option maxHeartbeats 4000000 in
set_option maxRecDepth 100000 in
theorem k_P_pass {n : Nat} {x1 : Nat} {S : HS} {S' : HS} (h : f_P_pass n x1 S = some S') : S'.2.2.2 = S.2.2.2 := by
  unfold f_P_pass at h
  have hm : S.2.2.2 = S.2.2.2 := rfl
  obtain ⟨j1, ej1, h⟩ := ob_some h
  obtain ⟨g2, h⟩ := gd_some h
  rcases ite_or h with ⟨c8, h⟩ | ⟨c8, h⟩
  · rcases ite_or h with ⟨c22, h⟩ | ⟨c22, h⟩
    · obtain ⟨S3, eS3, h⟩ := ob_some h
      have hm := (show S3.2.2.2 = S.2.2.2 from k_X_next eS3).trans hm
      have h := Option.some.inj h
      subst h
      exact hm
    · have h := Option.some.inj h
      subst h
      exact hm
  · obtain ⟨S4, eS4, h⟩ := ob_some h
    have hm := (show S4.2.2.2 = S.2.2.2 from k_P_refuse eS4).trans hm
    have h := Option.some.inj h
    subst h
    exact hm
set_option maxHeartbeats 4000000 in
set_option maxRecDepth 100000 in
theorem k_P_type_41 {n : Nat} {r : Int32} {S' : HS} {x2 : Int32} {S : HS} (h : f_P_type_b41 n x2 S = some (r, S')) : S'.2.2.2 = S.2.2.2 := by
  unfold f_P_type_b41 at h
  have hm : S.2.2.2 = S.2.2.2 := rfl
  obtain ⟨S5, eS5, h⟩ := ob_some h
  have hm := (show S5.2.2.2 = S.2.2.2 from k_P_refuse eS5).trans hm
  obtain ⟨hr1, hr2⟩ := Prod.mk.inj (Option.some.inj h)
  subst hr1
  subst hr2
  exact hm
set_option maxHeartbeats 4000000 in
set_option maxRecDepth 100000 in
theorem k_P_type_48 {n : Nat} {r : Int32} {S' : HS} {x2 : Int32} {S : HS} (h : f_P_type_b48 n x2 S = some (r, S')) : S'.2.2.2 = S.2.2.2 := by
  unfold f_P_type_b48 at h
  have hm : S.2.2.2 = S.2.2.2 := rfl
  rcases ite_or h with ⟨c52, h⟩ | ⟨c52, h⟩
  · obtain ⟨S6, eS6, h⟩ := ob_some h
    have hm := (show S6.2.2.2 = S.2.2.2 from k_X_next eS6).trans hm
    obtain ⟨hr1, hr2⟩ := Prod.mk.inj (Option.some.inj h)
    subst hr1
    subst hr2
    exact hm
  · obtain ⟨hr1, hr2⟩ := Prod.mk.inj (Option.some.inj h)
    subst hr1
    subst hr2
    exact hm
set_option maxHeartbeats 4000000 in
set_option maxRecDepth 100000 in
theorem k_P_type_27 {n : Nat} {r : Int32} {S' : HS} {x1 : Int32} {y0 : Int32} {S : HS} (h : f_P_type_b27 n x1 y0 S = some (r, S')) : S'.2.2.2 = S.2.2.2 := by
  unfold f_P_type_b27 at h
  have hm : S.2.2.2 = S.2.2.2 := rfl
  obtain ⟨v4, ev4, h⟩ := lt_some h
  rcases ite_or h with ⟨c29, h⟩ | ⟨c29, h⟩
  · exact (k_P_type_41 h).trans hm
  · rcases ite_or h with ⟨c33, h⟩ | ⟨c33, h⟩
    · exact (k_P_type_48 h).trans hm
    · rcases ite_or h with ⟨c38, h⟩ | ⟨c38, h⟩
      · exact (k_P_type_48 h).trans hm
      · exact (k_P_type_41 h).trans hm
set_option maxHeartbeats 4000000 in
set_option maxRecDepth 100000 in
theorem k_P_type {n : Nat} {x1 : Int32} {S : HS} {r : Int32} {S' : HS} (h : f_P_type n x1 S = some (r, S')) : S'.2.2.2 = S.2.2.2 := by
  unfold f_P_type at h
  have hm : S.2.2.2 = S.2.2.2 := rfl
  obtain ⟨j1, ej1, h⟩ := ob_some h
  obtain ⟨g2, h⟩ := gd_some h
  rcases ite_or h with ⟨c10, h⟩ | ⟨c10, h⟩
  · obtain ⟨r3, er3, h⟩ := ob_some h
    exact (k_P_type_27 h).trans hm
  · exact (k_P_type_27 h).trans hm
set_option maxHeartbeats 4000000 in
set_option maxRecDepth 100000 in
theorem k_P_readParameter_85 {n : Nat} {kc : Nat → Int32 → Int32 → HS → Option HS} {S' : HS} (hkm : ∀ (x1 : Nat) (x2 : Int32) (x3 : Int32) (S : HS), kc x1 x2 x3 S = some S' → S'.2.2.2 = S.2.2.2) {x1 : Nat} {x3 : Int32} {y0 : Int32} {S : HS} (h : f_P_readParameter_b85 n kc x1 x3 y0 S = some S') : S'.2.2.2 = S.2.2.2 := by
  unfold f_P_readParameter_b85 at h
  have hm : S.2.2.2 = S.2.2.2 := rfl
  obtain ⟨v33, ev33, h⟩ := lt_some h
  obtain ⟨v34, ev34, h⟩ := lt_some h
  exact (hkm _ _ _ _ h).trans hm
set_option maxHeartbeats 4000000 in
set_option maxRecDepth 100000 in
theorem k_P_readParameter_80 {n : Nat} {kc : Nat → Int32 → Int32 → HS → Option HS} {S' : HS} (hkm : ∀ (x1 : Nat) (x2 : Int32) (x3 : Int32) (S : HS), kc x1 x2 x3 S = some S' → S'.2.2.2 = S.2.2.2) {x1 : Nat} {x3 : Int32} {S : HS} (h : f_P_readParameter_b80 n kc x1 x3 S = some S') : S'.2.2.2 = S.2.2.2 := by
  unfold f_P_readParameter_b80 at h
  have hm : S.2.2.2 = S.2.2.2 := rfl
  exact (k_P_readParameter_85 hkm h).trans hm
set_option maxHeartbeats 4000000 in
set_option maxRecDepth 100000 in
theorem k_P_readParameter_84 {n : Nat} {kc : Nat → Int32 → Int32 → HS → Option HS} {S' : HS} (hkm : ∀ (x1 : Nat) (x2 : Int32) (x3 : Int32) (S : HS), kc x1 x2 x3 S = some S' → S'.2.2.2 = S.2.2.2) {x1 : Nat} {x3 : Int32} {S : HS} (h : f_P_readParameter_b84 n kc x1 x3 S = some S') : S'.2.2.2 = S.2.2.2 := by
  unfold f_P_readParameter_b84 at h
  have hm : S.2.2.2 = S.2.2.2 := rfl
  exact (k_P_readParameter_85 hkm h).trans hm
set_option maxHeartbeats 4000000 in
set_option maxRecDepth 100000 in
theorem k_P_readParameter_169 {n : Nat} {S' : HS} {x1 : Nat} {y0 : Int32} {y1 : Int32} {y2 : Nat} {S : HS} (h : f_P_readParameter_b169 n x1 y0 y1 y2 S = some S') : S'.2.2.2 = S.2.2.2 := by
  unfold f_P_readParameter_b169 at h
  have hm : S.2.2.2 = S.2.2.2 := rfl
  obtain ⟨g26, h⟩ := gd_some h
  obtain ⟨g27, h⟩ := gd_some h
  obtain ⟨S28, eS28, h⟩ := lt_some h
  have hm := (show S28.2.2.2 = S.2.2.2 from by rw [eS28]; rfl).trans hm
  obtain ⟨S29, eS29, h⟩ := ob_some h
  have hm := (show S29.2.2.2 = S28.2.2.2 from k_P_pass eS29).trans hm
  obtain ⟨g30, h⟩ := gd_some h
  obtain ⟨g31, h⟩ := gd_some h
  obtain ⟨S32, eS32, h⟩ := lt_some h
  have hm := (show S32.2.2.2 = S29.2.2.2 from by rw [eS32]; rfl).trans hm
  have h := Option.some.inj h
  subst h
  exact hm
set_option maxHeartbeats 4000000 in
set_option maxRecDepth 100000 in
theorem k_P_readParameter_114 {n : Nat} {S' : HS} {x1 : Nat} {S : HS} (h : f_P_readParameter_b114 n x1 S = some S') : S'.2.2.2 = S.2.2.2 := by
  unfold f_P_readParameter_b114 at h
  have hm : S.2.2.2 = S.2.2.2 := rfl
  rcases ite_or h with ⟨c118, h⟩ | ⟨c118, h⟩
  · obtain ⟨g15, h⟩ := gd_some h
    obtain ⟨g16, h⟩ := gd_some h
    obtain ⟨g17, h⟩ := gd_some h
    obtain ⟨g18, h⟩ := gd_some h
    obtain ⟨S19, eS19, h⟩ := lt_some h
    have hm := (show S19.2.2.2 = S.2.2.2 from by rw [eS19]; rfl).trans hm
    obtain ⟨S20, eS20, h⟩ := ob_some h
    have hm := (show S20.2.2.2 = S19.2.2.2 from k_P_pass eS20).trans hm
    obtain ⟨g21, h⟩ := gd_some h
    obtain ⟨g22, h⟩ := gd_some h
    rcases ite_or h with ⟨c157, h⟩ | ⟨c157, h⟩
    · obtain ⟨r24, S23, eS23, h⟩ := ob2_some h
      have hm := (show S23.2.2.2 = S20.2.2.2 from k_P_type eS23).trans hm
      exact (k_P_readParameter_169 h).trans hm
    · exact (k_P_readParameter_169 h).trans hm
  · have h := Option.some.inj h
    subst h
    exact hm
set_option maxHeartbeats 4000000 in
set_option maxRecDepth 100000 in
theorem k_P_readParameter_110 {n : Nat} {S' : HS} {x1 : Nat} {S : HS} (h : f_P_readParameter_b110 n x1 S = some S') : S'.2.2.2 = S.2.2.2 := by
  unfold f_P_readParameter_b110 at h
  have hm : S.2.2.2 = S.2.2.2 := rfl
  obtain ⟨S25, eS25, h⟩ := ob_some h
  have hm := (show S25.2.2.2 = S.2.2.2 from k_P_refuse eS25).trans hm
  exact (k_P_readParameter_114 h).trans hm
set_option maxHeartbeats 4000000 in
set_option maxRecDepth 100000 in
theorem k_P_readParameter_38B {n : Nat} {kc : Nat → Int32 → Int32 → HS → Option HS} {S' : HS} (hkm : ∀ (x1 : Nat) (x2 : Int32) (x3 : Int32) (S : HS), kc x1 x2 x3 S = some S' → S'.2.2.2 = S.2.2.2) {x1 : Nat} {x2 : Int32} {x3 : Int32} {S : HS} (h : f_P_readParameter_b38B n kc x1 x2 x3 S = some S') : S'.2.2.2 = S.2.2.2 := by
  unfold f_P_readParameter_b38B at h
  have hm : S.2.2.2 = S.2.2.2 := rfl
  obtain ⟨g8, h⟩ := gd_some h
  rcases ite_or h with ⟨c43, h⟩ | ⟨c43, h⟩
  · rcases ite_or h with ⟨c96, h⟩ | ⟨c96, h⟩
    · obtain ⟨r9, er9, h⟩ := ob_some h
      rcases ite_or h with ⟨c103, h⟩ | ⟨c103, h⟩
      · exact (k_P_readParameter_110 h).trans hm
      · rcases ite_or h with ⟨c107, h⟩ | ⟨c107, h⟩
        · exact (k_P_readParameter_114 h).trans hm
        · exact (k_P_readParameter_110 h).trans hm
    · exact (k_P_readParameter_114 h).trans hm
  · rcases ite_or h with ⟨c47, h⟩ | ⟨c47, h⟩
    · obtain ⟨j10, ej10, h⟩ := ob_some h
      obtain ⟨g11, h⟩ := gd_some h
      rcases ite_or h with ⟨c60, h⟩ | ⟨c60, h⟩
      · obtain ⟨g12, h⟩ := gd_some h
        obtain ⟨g13, h⟩ := gd_some h
        obtain ⟨g14, h⟩ := gd_some h
        rcases ite_or h with ⟨c77, h⟩ | ⟨c77, h⟩
        · exact (k_P_readParameter_80 hkm h).trans hm
        · exact (k_P_readParameter_84 hkm h).trans hm
      · exact (k_P_readParameter_84 hkm h).trans hm
    · exact (k_P_readParameter_80 hkm h).trans hm
set_option maxHeartbeats 4000000 in
set_option maxRecDepth 100000 in
theorem k_P_readParameter_38 {n : Nat} (k : Nat) {S' : HS} : ∀ {x1 : Nat} {x2 : Int32} {x3 : Int32} {S : HS}, f_P_readParameter_b38 n k x1 x2 x3 S = some S' → S'.2.2.2 = S.2.2.2 := by
  induction k with
  | zero => intro x1 x2 x3 S h; cases h
  | succ k ih => intro x1 x2 x3 S h; exact k_P_readParameter_38B (n := n) (kc := f_P_readParameter_b38 n k) (fun x1 x2 x3 S h => ih h) h
set_option maxHeartbeats 4000000 in
set_option maxRecDepth 100000 in
theorem k_P_readParameter_27 {n : Nat} {S' : HS} {x1 : Nat} {S : HS} (h : f_P_readParameter_b27 n x1 S = some S') : S'.2.2.2 = S.2.2.2 := by
  unfold f_P_readParameter_b27 at h
  have hm : S.2.2.2 = S.2.2.2 := rfl
  obtain ⟨S5, eS5, h⟩ := ob_some h
  have hm := (show S5.2.2.2 = S.2.2.2 from k_P_pass eS5).trans hm
  obtain ⟨v6, ev6, h⟩ := lt_some h
  obtain ⟨v7, ev7, h⟩ := lt_some h
  exact (k_P_readParameter_38 n h).trans hm
set_option maxHeartbeats 4000000 in
set_option maxRecDepth 100000 in
theorem k_P_readParameter {n : Nat} {x1 : Nat} {S : HS} {S' : HS} (h : f_P_readParameter n x1 S = some S') : S'.2.2.2 = S.2.2.2 := by
  unfold f_P_readParameter at h
  have hm : S.2.2.2 = S.2.2.2 := rfl
  obtain ⟨j1, ej1, h⟩ := ob_some h
  obtain ⟨g2, h⟩ := gd_some h
  rcases ite_or h with ⟨c10, h⟩ | ⟨c10, h⟩
  · obtain ⟨g3, h⟩ := gd_some h
    rcases ite_or h with ⟨c19, h⟩ | ⟨c19, h⟩
    · obtain ⟨S4, eS4, h⟩ := ob_some h
      have hm := (show S4.2.2.2 = S.2.2.2 from k_P_refuse eS4).trans hm
      have h := Option.some.inj h
      subst h
      exact hm
    · exact (k_P_readParameter_27 h).trans hm
  · exact (k_P_readParameter_27 h).trans hm
set_option maxHeartbeats 4000000 in
set_option maxRecDepth 100000 in
theorem k_P_variable_45 {n : Nat} {S' : HS} {S : HS} (h : f_P_variable_b45 n S = some S') : S'.2.2.2 = S.2.2.2 := by
  unfold f_P_variable_b45 at h
  have hm : S.2.2.2 = S.2.2.2 := rfl
  obtain ⟨S6, eS6, h⟩ := ob_some h
  have hm := (show S6.2.2.2 = S.2.2.2 from k_P_refuse eS6).trans hm
  have h := Option.some.inj h
  subst h
  exact hm
set_option maxHeartbeats 4000000 in
set_option maxRecDepth 100000 in
theorem k_P_variable_101 {n : Nat} {S' : HS} {x1 : Nat} {S : HS} (h : f_P_variable_b101 n x1 S = some S') : S'.2.2.2 = S.2.2.2 := by
  unfold f_P_variable_b101 at h
  have hm : S.2.2.2 = S.2.2.2 := rfl
  obtain ⟨g16, h⟩ := gd_some h
  obtain ⟨g17, h⟩ := gd_some h
  obtain ⟨S18, eS18, h⟩ := lt_some h
  have hm := (show S18.2.2.2 = S.2.2.2 from by rw [eS18]; rfl).trans hm
  obtain ⟨S19, eS19, h⟩ := ob_some h
  have hm := (show S19.2.2.2 = S18.2.2.2 from k_X_next eS19).trans hm
  have h := Option.some.inj h
  subst h
  exact hm
set_option maxHeartbeats 4000000 in
set_option maxRecDepth 100000 in
theorem k_P_variable_36 {n : Nat} {S' : HS} {x1 : Nat} {x2 : Int32} {x3 : Nat} {S : HS} (h : f_P_variable_b36 n x1 x2 x3 S = some S') : S'.2.2.2 = S.2.2.2 := by
  unfold f_P_variable_b36 at h
  have hm : S.2.2.2 = S.2.2.2 := rfl
  obtain ⟨g7, h⟩ := gd_some h
  rcases ite_or h with ⟨c42, h⟩ | ⟨c42, h⟩
  · exact (k_P_variable_45 h).trans hm
  · rcases ite_or h with ⟨c51, h⟩ | ⟨c51, h⟩
    · obtain ⟨g8, h⟩ := gd_some h
      obtain ⟨S9, eS9, h⟩ := lt_some h
      have hm := (show S9.2.2.2 = S.2.2.2 from by rw [eS9]; rfl).trans hm
      obtain ⟨g10, h⟩ := gd_some h
      obtain ⟨S11, eS11, h⟩ := lt_some h
      have hm := (show S11.2.2.2 = S9.2.2.2 from by rw [eS11]; rfl).trans hm
      exact (k_P_variable_101 h).trans hm
    · obtain ⟨g12, h⟩ := gd_some h
      obtain ⟨S13, eS13, h⟩ := lt_some h
      have hm := (show S13.2.2.2 = S.2.2.2 from by rw [eS13]; rfl).trans hm
      obtain ⟨g14, h⟩ := gd_some h
      obtain ⟨S15, eS15, h⟩ := lt_some h
      have hm := (show S15.2.2.2 = S13.2.2.2 from by rw [eS15]; rfl).trans hm
      exact (k_P_variable_101 h).trans hm
set_option maxHeartbeats 4000000 in
set_option maxRecDepth 100000 in
theorem k_P_variable {n : Nat} {x1 : Nat} {x2 : Int32} {S : HS} {S' : HS} (h : f_P_variable n x1 x2 S = some S') : S'.2.2.2 = S.2.2.2 := by
  unfold f_P_variable at h
  have hm : S.2.2.2 = S.2.2.2 := rfl
  obtain ⟨g1, h⟩ := gd_some h
  obtain ⟨g2, h⟩ := gd_some h
  obtain ⟨j3, ej3, h⟩ := ob_some h
  obtain ⟨r4, er4, h⟩ := ob_some h
  rcases ite_or h with ⟨c14, h⟩ | ⟨c14, h⟩
  · exact (k_P_variable_45 h).trans hm
  · rcases ite_or h with ⟨c18, h⟩ | ⟨c18, h⟩
    · exact (k_P_variable_36 h).trans hm
    · obtain ⟨g5, h⟩ := gd_some h
      rcases ite_or h with ⟨c33, h⟩ | ⟨c33, h⟩
      · exact (k_P_variable_45 h).trans hm
      · exact (k_P_variable_36 h).trans hm
set_option maxHeartbeats 4000000 in
set_option maxRecDepth 100000 in
theorem k_P_function {n : Nat} {x1 : Nat} {S : HS} {S' : HS} (h : f_P_function n x1 S = some S') : S'.2.2.2 = S.2.2.2 := by
  unfold f_P_function at h
  have hm : S.2.2.2 = S.2.2.2 := rfl
  obtain ⟨r1, er1, h⟩ := ob_some h
  rcases ite_or h with ⟨c4, h⟩ | ⟨c4, h⟩
  · obtain ⟨S7, eS7, h⟩ := ob_some h
    have hm := (show S7.2.2.2 = S.2.2.2 from k_P_refuse eS7).trans hm
    have h := Option.some.inj h
    subst h
    exact hm
  · obtain ⟨g2, h⟩ := gd_some h
    obtain ⟨S3, eS3, h⟩ := lt_some h
    have hm := (show S3.2.2.2 = S.2.2.2 from by rw [eS3]; rfl).trans hm
    obtain ⟨g4, h⟩ := gd_some h
    obtain ⟨S5, eS5, h⟩ := lt_some h
    have hm := (show S5.2.2.2 = S3.2.2.2 from by rw [eS5]; rfl).trans hm
    obtain ⟨S6, eS6, h⟩ := ob_some h
    have hm := (show S6.2.2.2 = S5.2.2.2 from k_X_next eS6).trans hm
    have h := Option.some.inj h
    subst h
    exact hm
set_option maxHeartbeats 4000000 in
set_option maxRecDepth 100000 in
theorem k_P_close {n : Nat} {x1 : Nat} {S : HS} {S' : HS} (h : f_P_close n x1 S = some S') : S'.2.2.2 = S.2.2.2 := by
  unfold f_P_close at h
  have hm : S.2.2.2 = S.2.2.2 := rfl
  obtain ⟨S1, eS1, h⟩ := ob_some h
  have hm := (show S1.2.2.2 = S.2.2.2 from k_P_pass eS1).trans hm
  rcases ite_or h with ⟨c11, h⟩ | ⟨c11, h⟩
  · obtain ⟨g2, h⟩ := gd_some h
    obtain ⟨g3, h⟩ := gd_some h
    obtain ⟨j4, ej4, h⟩ := ob_some h
    obtain ⟨r5, er5, h⟩ := ob_some h
    rcases ite_or h with ⟨c25, h⟩ | ⟨c25, h⟩
    · obtain ⟨g6, h⟩ := gd_some h
      obtain ⟨g7, h⟩ := gd_some h
      obtain ⟨j8, ej8, h⟩ := ob_some h
      obtain ⟨g9, h⟩ := gd_some h
      obtain ⟨g10, h⟩ := gd_some h
      obtain ⟨S11, eS11, h⟩ := lt_some h
      have hm := (show S11.2.2.2 = S1.2.2.2 from by rw [eS11]; rfl).trans hm
      obtain ⟨S12, eS12, h⟩ := lt_some h
      have hm := (show S12.2.2.2 = S11.2.2.2 from by rw [eS12]; rfl).trans hm
      have h := Option.some.inj h
      subst h
      exact hm
    · have h := Option.some.inj h
      subst h
      exact hm
  · have h := Option.some.inj h
    subst h
    exact hm
set_option maxHeartbeats 4000000 in
set_option maxRecDepth 100000 in
theorem k_P_give_33B {n : Nat} {kc : Int64 → Int32 → HS → Option (Int32 × HS)} {r : Int32} {S' : HS} (hkm : ∀ (x1 : Int64) (x4 : Int32) (S : HS), kc x1 x4 S = some (r, S') → S'.2.2.2 = S.2.2.2) {x1 : Int64} {x4 : Int32} {S : HS} (h : f_P_give_b33B n kc x1 x4 S = some (r, S')) : S'.2.2.2 = S.2.2.2 := by
  unfold f_P_give_b33B at h
  have hm : S.2.2.2 = S.2.2.2 := rfl
  rcases ite_or h with ⟨c35, h⟩ | ⟨c35, h⟩
  · obtain ⟨hr1, hr2⟩ := Prod.mk.inj (Option.some.inj h)
    subst hr1
    subst hr2
    exact hm
  · obtain ⟨g2, h⟩ := gd_some h
    obtain ⟨S3, eS3, h⟩ := lt_some h
    have hm := (show S3.2.2.2 = S.2.2.2 from by rw [eS3]; rfl).trans hm
    obtain ⟨S4, eS4, h⟩ := lt_some h
    have hm := (show S4.2.2.2 = S3.2.2.2 from by rw [eS4]; rfl).trans hm
    obtain ⟨v5, ev5, h⟩ := lt_some h
    exact (hkm _ _ _ h).trans hm
set_option maxHeartbeats 4000000 in
set_option maxRecDepth 100000 in
theorem k_P_give_33 {n : Nat} (k : Nat) {r : Int32} {S' : HS} : ∀ {x1 : Int64} {x4 : Int32} {S : HS}, f_P_give_b33 n k x1 x4 S = some (r, S') → S'.2.2.2 = S.2.2.2 := by
  induction k with
  | zero => intro x1 x4 S h; cases h
  | succ k ih => intro x1 x4 S h; exact k_P_give_33B (n := n) (kc := f_P_give_b33 n k) (fun x1 x4 S h => ih h) h
set_option maxHeartbeats 4000000 in
set_option maxRecDepth 100000 in
theorem k_P_give {n : Nat} {x1 : Int64} {x3 : Int32} {S : HS} {r : Int32} {S' : HS} (h : f_P_give n x1 x3 S = some (r, S')) : S'.2.2.2 = S.2.2.2 := by
  unfold f_P_give at h
  have hm : S.2.2.2 = S.2.2.2 := rfl
  rcases ite_or h with ⟨c2, h⟩ | ⟨c2, h⟩
  · obtain ⟨hr1, hr2⟩ := Prod.mk.inj (Option.some.inj h)
    subst hr1
    subst hr2
    exact hm
  · rcases ite_or h with ⟨c8, h⟩ | ⟨c8, h⟩
    · obtain ⟨hr1, hr2⟩ := Prod.mk.inj (Option.some.inj h)
      subst hr1
      subst hr2
      exact hm
    · rcases ite_or h with ⟨c23, h⟩ | ⟨c23, h⟩
      · obtain ⟨v1, ev1, h⟩ := lt_some h
        exact (k_P_give_33 n h).trans hm
      · obtain ⟨hr1, hr2⟩ := Prod.mk.inj (Option.some.inj h)
        subst hr1
        subst hr2
        exact hm
set_option maxHeartbeats 4000000 in
set_option maxRecDepth 100000 in
theorem k_P_wipe {S : HS} {S' : HS} (h : f_P_wipe S = some S') : S'.2.2.2 = S.2.2.2 := by
  unfold f_P_wipe at h
  have hm : S.2.2.2 = S.2.2.2 := rfl
  obtain ⟨S1, eS1, h⟩ := lt_some h
  have hm := (show S1.2.2.2 = S.2.2.2 from by rw [eS1]; rfl).trans hm
  have h := Option.some.inj h
  subst h
  exact hm
