-- printed by gen/walk2.py
set_option maxHeartbeats 4000000 in
set_option maxRecDepth 100000 in
theorem k_M_push {x1 : Int32} {x2 : Int32} {S : HS} {S' : HS} (h : f_M_push x1 x2 S = some S') : S'.2.2.2 = S.2.2.2 := by
  unfold f_M_push at h
  have hm : S.2.2.2 = S.2.2.2 := rfl
  obtain ⟨g1, h⟩ := gd_some h
  obtain ⟨S2, eS2, h⟩ := lt_some h
  have hm := (show S2.2.2.2 = S.2.2.2 from by rw [eS2]; rfl).trans hm
  obtain ⟨g3, h⟩ := gd_some h
  obtain ⟨S4, eS4, h⟩ := lt_some h
  have hm := (show S4.2.2.2 = S2.2.2.2 from by rw [eS4]; rfl).trans hm
  obtain ⟨S5, eS5, h⟩ := lt_some h
  have hm := (show S5.2.2.2 = S4.2.2.2 from by rw [eS5]; rfl).trans hm
  have h := Option.some.inj h
  subst h
  exact hm
set_option maxHeartbeats 4000000 in
set_option maxRecDepth 100000 in
theorem k_M_wrong {x1 : Int32} {x2 : Int32} {S : HS} {S' : HS} (h : f_M_wrong x1 x2 S = some S') : S'.2.2.2 = S.2.2.2 := by
  unfold f_M_wrong at h
  have hm : S.2.2.2 = S.2.2.2 := rfl
  rcases ite_or h with ⟨c4, h⟩ | ⟨c4, h⟩
  · obtain ⟨S1, eS1, h⟩ := lt_some h
    have hm := (show S1.2.2.2 = S.2.2.2 from by rw [eS1]; rfl).trans hm
    obtain ⟨S2, eS2, h⟩ := lt_some h
    have hm := (show S2.2.2.2 = S1.2.2.2 from by rw [eS2]; rfl).trans hm
    have h := Option.some.inj h
    subst h
    exact hm
  · have h := Option.some.inj h
    subst h
    exact hm
set_option maxHeartbeats 4000000 in
set_option maxRecDepth 100000 in
theorem k_M_give_35B {n : Nat} {kc : Int64 → Int32 → HS → Option (Int32 × HS)} {r : Int32} {S' : HS} (hkm : ∀ (x1 : Int64) (x4 : Int32) (S : HS), kc x1 x4 S = some (r, S') → S'.2.2.2 = S.2.2.2) {x1 : Int64} {x4 : Int32} {S : HS} (h : f_M_give_b35B n kc x1 x4 S = some (r, S')) : S'.2.2.2 = S.2.2.2 := by
  unfold f_M_give_b35B at h
  have hm : S.2.2.2 = S.2.2.2 := rfl
  rcases ite_or h with ⟨c37, h⟩ | ⟨c37, h⟩
  · obtain ⟨hr1, hr2⟩ := Prod.mk.inj (Option.some.inj h)
    subst hr1
    subst hr2
    exact hm
  · obtain ⟨g3, h⟩ := gd_some h
    obtain ⟨S4, eS4, h⟩ := lt_some h
    have hm := (show S4.2.2.2 = S.2.2.2 from by rw [eS4]; rfl).trans hm
    obtain ⟨S5, eS5, h⟩ := lt_some h
    have hm := (show S5.2.2.2 = S4.2.2.2 from by rw [eS5]; rfl).trans hm
    obtain ⟨v6, ev6, h⟩ := lt_some h
    exact (hkm _ _ _ h).trans hm
set_option maxHeartbeats 4000000 in
set_option maxRecDepth 100000 in
theorem k_M_give_35 {n : Nat} (k : Nat) {r : Int32} {S' : HS} : ∀ {x1 : Int64} {x4 : Int32} {S : HS}, f_M_give_b35 n k x1 x4 S = some (r, S') → S'.2.2.2 = S.2.2.2 := by
  induction k with
  | zero => intro x1 x4 S h; cases h
  | succ k ih => intro x1 x4 S h; exact k_M_give_35B (n := n) (kc := f_M_give_b35 n k) (fun x1 x4 S h => ih h) h
set_option maxHeartbeats 4000000 in
set_option maxRecDepth 100000 in
theorem k_M_give {n : Nat} {x1 : Int64} {x3 : Int32} {S : HS} {r : Int32} {S' : HS} (h : f_M_give n x1 x3 S = some (r, S')) : S'.2.2.2 = S.2.2.2 := by
  unfold f_M_give at h
  have hm : S.2.2.2 = S.2.2.2 := rfl
  obtain ⟨S1, eS1, h⟩ := lt_some h
  have hm := (show S1.2.2.2 = S.2.2.2 from by rw [eS1]; rfl).trans hm
  rcases ite_or h with ⟨c7, h⟩ | ⟨c7, h⟩
  · obtain ⟨hr1, hr2⟩ := Prod.mk.inj (Option.some.inj h)
    subst hr1
    subst hr2
    exact hm
  · rcases ite_or h with ⟨c13, h⟩ | ⟨c13, h⟩
    · obtain ⟨hr1, hr2⟩ := Prod.mk.inj (Option.some.inj h)
      subst hr1
      subst hr2
      exact hm
    · rcases ite_or h with ⟨c25, h⟩ | ⟨c25, h⟩
      · obtain ⟨v2, ev2, h⟩ := lt_some h
        exact (k_M_give_35 n h).trans hm
      · obtain ⟨hr1, hr2⟩ := Prod.mk.inj (Option.some.inj h)
        subst hr1
        subst hr2
        exact hm
set_option maxHeartbeats 4000000 in
set_option maxRecDepth 100000 in
theorem k_M_wipe {S : HS} {S' : HS} (h : f_M_wipe S = some S') : S'.2.2.2 = S.2.2.2 := by
  unfold f_M_wipe at h
  have hm : S.2.2.2 = S.2.2.2 := rfl
  obtain ⟨S1, eS1, h⟩ := lt_some h
  have hm := (show S1.2.2.2 = S.2.2.2 from by rw [eS1]; rfl).trans hm
  obtain ⟨S2, eS2, h⟩ := lt_some h
  have hm := (show S2.2.2.2 = S1.2.2.2 from by rw [eS2]; rfl).trans hm
  have h := Option.some.inj h
  subst h
  exact hm
set_option maxHeartbeats 4000000 in
set_option maxRecDepth 100000 in
theorem k_M_setName {x1 : Int32} {S : HS} {S' : HS} (h : f_M_setName x1 S = some S') : S'.2.2.2 = S.2.2.2 := by
  unfold f_M_setName at h
  have hm : S.2.2.2 = S.2.2.2 := rfl
  obtain ⟨g1, h⟩ := gd_some h
  obtain ⟨S2, eS2, h⟩ := lt_some h
  have hm := (show S2.2.2.2 = S.2.2.2 from by rw [eS2]; rfl).trans hm
  obtain ⟨g3, h⟩ := gd_some h
  obtain ⟨S4, eS4, h⟩ := lt_some h
  have hm := (show S4.2.2.2 = S2.2.2.2 from by rw [eS4]; rfl).trans hm
  have h := Option.some.inj h
  subst h
  exact hm
set_option maxHeartbeats 4000000 in
set_option maxRecDepth 100000 in
theorem k_M_make {x1 : Int32} {x2 : Int32} {S : HS} {r : Int32} {S' : HS} (h : f_M_make x1 x2 S = some (r, S')) : S'.2.2.2 = S.2.2.2 := by
  unfold f_M_make at h
  have hm : S.2.2.2 = S.2.2.2 := rfl
  obtain ⟨v1, ev1, h⟩ := lt_some h
  obtain ⟨S2, eS2, h⟩ := lt_some h
  have hm := (show S2.2.2.2 = S.2.2.2 from by rw [eS2]; rfl).trans hm
  obtain ⟨g3, h⟩ := gd_some h
  obtain ⟨S4, eS4, h⟩ := lt_some h
  have hm := (show S4.2.2.2 = S2.2.2.2 from by rw [eS4]; rfl).trans hm
  obtain ⟨g5, h⟩ := gd_some h
  obtain ⟨S6, eS6, h⟩ := lt_some h
  have hm := (show S6.2.2.2 = S4.2.2.2 from by rw [eS6]; rfl).trans hm
  obtain ⟨g7, h⟩ := gd_some h
  obtain ⟨S8, eS8, h⟩ := lt_some h
  have hm := (show S8.2.2.2 = S6.2.2.2 from by rw [eS8]; rfl).trans hm
  obtain ⟨g9, h⟩ := gd_some h
  obtain ⟨S10, eS10, h⟩ := lt_some h
  have hm := (show S10.2.2.2 = S8.2.2.2 from by rw [eS10]; rfl).trans hm
  obtain ⟨g11, h⟩ := gd_some h
  obtain ⟨S12, eS12, h⟩ := lt_some h
  have hm := (show S12.2.2.2 = S10.2.2.2 from by rw [eS12]; rfl).trans hm
  obtain ⟨g13, h⟩ := gd_some h
  obtain ⟨S14, eS14, h⟩ := lt_some h
  have hm := (show S14.2.2.2 = S12.2.2.2 from by rw [eS14]; rfl).trans hm
  obtain ⟨g15, h⟩ := gd_some h
  obtain ⟨S16, eS16, h⟩ := lt_some h
  have hm := (show S16.2.2.2 = S14.2.2.2 from by rw [eS16]; rfl).trans hm
  obtain ⟨g17, h⟩ := gd_some h
  obtain ⟨S18, eS18, h⟩ := lt_some h
  have hm := (show S18.2.2.2 = S16.2.2.2 from by rw [eS18]; rfl).trans hm
  obtain ⟨g19, h⟩ := gd_some h
  obtain ⟨S20, eS20, h⟩ := lt_some h
  have hm := (show S20.2.2.2 = S18.2.2.2 from by rw [eS20]; rfl).trans hm
  obtain ⟨hr1, hr2⟩ := Prod.mk.inj (Option.some.inj h)
  subst hr1
  subst hr2
  exact hm
set_option maxHeartbeats 4000000 in
set_option maxRecDepth 100000 in
theorem k_M_name {x1 : Int32} {x2 : Int32} {S : HS} {r : Int64} {S' : HS} (h : f_M_name x1 x2 S = some (r, S')) : S'.2.2.2 = S.2.2.2 := by
  unfold f_M_name at h
  have hm : S.2.2.2 = S.2.2.2 := rfl
  obtain ⟨S1, eS1, h⟩ := lt_some h
  have hm := (show S1.2.2.2 = S.2.2.2 from by rw [eS1]; rfl).trans hm
  rcases ite_or h with ⟨c6, h⟩ | ⟨c6, h⟩
  · obtain ⟨hr1, hr2⟩ := Prod.mk.inj (Option.some.inj h)
    subst hr1
    subst hr2
    exact hm
  · rcases ite_or h with ⟨c14, h⟩ | ⟨c14, h⟩
    · obtain ⟨hr1, hr2⟩ := Prod.mk.inj (Option.some.inj h)
      subst hr1
      subst hr2
      exact hm
    · rcases ite_or h with ⟨c18, h⟩ | ⟨c18, h⟩
      · obtain ⟨hr1, hr2⟩ := Prod.mk.inj (Option.some.inj h)
        subst hr1
        subst hr2
        exact hm
      · rcases ite_or h with ⟨c23, h⟩ | ⟨c23, h⟩
        · rcases ite_or h with ⟨c31, h⟩ | ⟨c31, h⟩
          · obtain ⟨g3, h⟩ := gd_some h
            obtain ⟨hr1, hr2⟩ := Prod.mk.inj (Option.some.inj h)
            subst hr1
            subst hr2
            exact hm
          · obtain ⟨g2, h⟩ := gd_some h
            obtain ⟨hr1, hr2⟩ := Prod.mk.inj (Option.some.inj h)
            subst hr1
            subst hr2
            exact hm
        · obtain ⟨hr1, hr2⟩ := Prod.mk.inj (Option.some.inj h)
          subst hr1
          subst hr2
          exact hm
set_option maxHeartbeats 4000000 in
set_option maxRecDepth 100000 in
theorem k_M_number {x1 : Int32} {S : HS} {r : Int32} {S' : HS} (h : f_M_number x1 S = some (r, S')) : S'.2.2.2 = S.2.2.2 := by
  unfold f_M_number at h
  have hm : S.2.2.2 = S.2.2.2 := rfl
  obtain ⟨S1, eS1, h⟩ := lt_some h
  have hm := (show S1.2.2.2 = S.2.2.2 from by rw [eS1]; rfl).trans hm
  rcases ite_or h with ⟨c6, h⟩ | ⟨c6, h⟩
  · obtain ⟨hr1, hr2⟩ := Prod.mk.inj (Option.some.inj h)
    subst hr1
    subst hr2
    exact hm
  · rcases ite_or h with ⟨c14, h⟩ | ⟨c14, h⟩
    · obtain ⟨g2, h⟩ := gd_some h
      obtain ⟨hr1, hr2⟩ := Prod.mk.inj (Option.some.inj h)
      subst hr1
      subst hr2
      exact hm
    · obtain ⟨hr1, hr2⟩ := Prod.mk.inj (Option.some.inj h)
      subst hr1
      subst hr2
      exact hm
set_option maxHeartbeats 4000000 in
set_option maxRecDepth 100000 in
theorem k_M_look {x1 : Int32} {S : HS} {r : Int32} {S' : HS} (h : f_M_look x1 S = some (r, S')) : S'.2.2.2 = S.2.2.2 := by
  unfold f_M_look at h
  have hm : S.2.2.2 = S.2.2.2 := rfl
  obtain ⟨S1, eS1, h⟩ := lt_some h
  have hm := (show S1.2.2.2 = S.2.2.2 from by rw [eS1]; rfl).trans hm
  rcases ite_or h with ⟨c6, h⟩ | ⟨c6, h⟩
  · obtain ⟨hr1, hr2⟩ := Prod.mk.inj (Option.some.inj h)
    subst hr1
    subst hr2
    exact hm
  · rcases ite_or h with ⟨c18, h⟩ | ⟨c18, h⟩
    · obtain ⟨hr1, hr2⟩ := Prod.mk.inj (Option.some.inj h)
      subst hr1
      subst hr2
      exact hm
    · rcases ite_or h with ⟨c30, h⟩ | ⟨c30, h⟩
      · obtain ⟨hr1, hr2⟩ := Prod.mk.inj (Option.some.inj h)
        subst hr1
        subst hr2
        exact hm
      · rcases ite_or h with ⟨c42, h⟩ | ⟨c42, h⟩
        · obtain ⟨hr1, hr2⟩ := Prod.mk.inj (Option.some.inj h)
          subst hr1
          subst hr2
          exact hm
        · rcases ite_or h with ⟨c54, h⟩ | ⟨c54, h⟩
          · obtain ⟨hr1, hr2⟩ := Prod.mk.inj (Option.some.inj h)
            subst hr1
            subst hr2
            exact hm
          · obtain ⟨hr1, hr2⟩ := Prod.mk.inj (Option.some.inj h)
            subst hr1
            subst hr2
            exact hm
set_option maxHeartbeats 4000000 in
set_option maxRecDepth 100000 in
theorem k_M_definition {x1 : Int32} {x2 : Int32} {S : HS} {r : Int32} {S' : HS} (h : f_M_definition x1 x2 S = some (r, S')) : S'.2.2.2 = S.2.2.2 := by
  unfold f_M_definition at h
  have hm : S.2.2.2 = S.2.2.2 := rfl
  obtain ⟨S1, eS1, h⟩ := lt_some h
  have hm := (show S1.2.2.2 = S.2.2.2 from by rw [eS1]; rfl).trans hm
  obtain ⟨r2, er2, h⟩ := ob_some h
  rcases ite_or h with ⟨c10, h⟩ | ⟨c10, h⟩
  · obtain ⟨hr1, hr2⟩ := Prod.mk.inj (Option.some.inj h)
    subst hr1
    subst hr2
    exact hm
  · rcases ite_or h with ⟨c16, h⟩ | ⟨c16, h⟩
    · obtain ⟨g7, h⟩ := gd_some h
      obtain ⟨hr1, hr2⟩ := Prod.mk.inj (Option.some.inj h)
      subst hr1
      subst hr2
      exact hm
    · rcases ite_or h with ⟨c30, h⟩ | ⟨c30, h⟩
      · obtain ⟨g6, h⟩ := gd_some h
        obtain ⟨hr1, hr2⟩ := Prod.mk.inj (Option.some.inj h)
        subst hr1
        subst hr2
        exact hm
      · rcases ite_or h with ⟨c44, h⟩ | ⟨c44, h⟩
        · obtain ⟨g5, h⟩ := gd_some h
          obtain ⟨hr1, hr2⟩ := Prod.mk.inj (Option.some.inj h)
          subst hr1
          subst hr2
          exact hm
        · rcases ite_or h with ⟨c58, h⟩ | ⟨c58, h⟩
          · obtain ⟨g4, h⟩ := gd_some h
            obtain ⟨hr1, hr2⟩ := Prod.mk.inj (Option.some.inj h)
            subst hr1
            subst hr2
            exact hm
          · rcases ite_or h with ⟨c72, h⟩ | ⟨c72, h⟩
            · obtain ⟨g3, h⟩ := gd_some h
              obtain ⟨hr1, hr2⟩ := Prod.mk.inj (Option.some.inj h)
              subst hr1
              subst hr2
              exact hm
            · obtain ⟨hr1, hr2⟩ := Prod.mk.inj (Option.some.inj h)
              subst hr1
              subst hr2
              exact hm
set_option maxHeartbeats 4000000 in
set_option maxRecDepth 100000 in
theorem k_M_title_36 {r : Int64} {S' : HS} {x1 : Int32} {x2 : Int32} {y0 : Int32} {y2 : Int32} {S : HS} (h : f_M_title_b36 x1 x2 y0 y2 S = some (r, S')) : S'.2.2.2 = S.2.2.2 := by
  unfold f_M_title_b36 at h
  have hm : S.2.2.2 = S.2.2.2 := rfl
  obtain ⟨g4, h⟩ := gd_some h
  rcases ite_or h with ⟨c37, h⟩ | ⟨c37, h⟩
  · rcases ite_or h with ⟨c43, h⟩ | ⟨c43, h⟩
    · obtain ⟨g5, h⟩ := gd_some h
      obtain ⟨hr1, hr2⟩ := Prod.mk.inj (Option.some.inj h)
      subst hr1
      subst hr2
      exact hm
    · obtain ⟨g6, h⟩ := gd_some h
      obtain ⟨hr1, hr2⟩ := Prod.mk.inj (Option.some.inj h)
      subst hr1
      subst hr2
      exact hm
  · obtain ⟨hr1, hr2⟩ := Prod.mk.inj (Option.some.inj h)
    subst hr1
    subst hr2
    exact hm
set_option maxHeartbeats 4000000 in
set_option maxRecDepth 100000 in
theorem k_M_title {x1 : Int32} {x2 : Int32} {S : HS} {r : Int64} {S' : HS} (h : f_M_title x1 x2 S = some (r, S')) : S'.2.2.2 = S.2.2.2 := by
  unfold f_M_title at h
  have hm : S.2.2.2 = S.2.2.2 := rfl
  obtain ⟨S1, eS1, h⟩ := lt_some h
  have hm := (show S1.2.2.2 = S.2.2.2 from by rw [eS1]; rfl).trans hm
  obtain ⟨r2, er2, h⟩ := ob_some h
  rcases ite_or h with ⟨c10, h⟩ | ⟨c10, h⟩
  · obtain ⟨hr1, hr2⟩ := Prod.mk.inj (Option.some.inj h)
    subst hr1
    subst hr2
    exact hm
  · rcases ite_or h with ⟨c15, h⟩ | ⟨c15, h⟩
    · obtain ⟨hr1, hr2⟩ := Prod.mk.inj (Option.some.inj h)
      subst hr1
      subst hr2
      exact hm
    · obtain ⟨r3, er3, h⟩ := ob_some h
      rcases ite_or h with ⟨c28, h⟩ | ⟨c28, h⟩
      · exact (k_M_title_36 h).trans hm
      · exact (k_M_title_36 h).trans hm
set_option maxHeartbeats 4000000 in
set_option maxRecDepth 100000 in
theorem k_M_parameter_35 {r : Int32} {S' : HS} {x1 : Int32} {x2 : Int32} {y0 : Int32} {y2 : Int32} {S : HS} (h : f_M_parameter_b35 x1 x2 y0 y2 S = some (r, S')) : S'.2.2.2 = S.2.2.2 := by
  unfold f_M_parameter_b35 at h
  have hm : S.2.2.2 = S.2.2.2 := rfl
  obtain ⟨g4, h⟩ := gd_some h
  rcases ite_or h with ⟨c36, h⟩ | ⟨c36, h⟩
  · obtain ⟨hr1, hr2⟩ := Prod.mk.inj (Option.some.inj h)
    subst hr1
    subst hr2
    exact hm
  · obtain ⟨g5, h⟩ := gd_some h
    obtain ⟨hr1, hr2⟩ := Prod.mk.inj (Option.some.inj h)
    subst hr1
    subst hr2
    exact hm
set_option maxHeartbeats 4000000 in
set_option maxRecDepth 100000 in
theorem k_M_parameter {x1 : Int32} {x2 : Int32} {S : HS} {r : Int32} {S' : HS} (h : f_M_parameter x1 x2 S = some (r, S')) : S'.2.2.2 = S.2.2.2 := by
  unfold f_M_parameter at h
  have hm : S.2.2.2 = S.2.2.2 := rfl
  obtain ⟨S1, eS1, h⟩ := lt_some h
  have hm := (show S1.2.2.2 = S.2.2.2 from by rw [eS1]; rfl).trans hm
  obtain ⟨r2, er2, h⟩ := ob_some h
  rcases ite_or h with ⟨c10, h⟩ | ⟨c10, h⟩
  · obtain ⟨hr1, hr2⟩ := Prod.mk.inj (Option.some.inj h)
    subst hr1
    subst hr2
    exact hm
  · rcases ite_or h with ⟨c14, h⟩ | ⟨c14, h⟩
    · obtain ⟨hr1, hr2⟩ := Prod.mk.inj (Option.some.inj h)
      subst hr1
      subst hr2
      exact hm
    · obtain ⟨r3, er3, h⟩ := ob_some h
      rcases ite_or h with ⟨c27, h⟩ | ⟨c27, h⟩
      · exact (k_M_parameter_35 h).trans hm
      · exact (k_M_parameter_35 h).trans hm
set_option maxHeartbeats 4000000 in
set_option maxRecDepth 100000 in
theorem k_M_node {n : Nat} {x1 : Int32} {x2 : Int32} {S : HS} {r : Int32} {S' : HS} (h : f_M_node n x1 x2 S = some (r, S')) : S'.2.2.2 = S.2.2.2 := by
  unfold f_M_node at h
  have hm : S.2.2.2 = S.2.2.2 := rfl
  obtain ⟨S1, eS1, h⟩ := lt_some h
  have hm := (show S1.2.2.2 = S.2.2.2 from by rw [eS1]; rfl).trans hm
  rcases ite_or h with ⟨c6, h⟩ | ⟨c6, h⟩
  · obtain ⟨hr1, hr2⟩ := Prod.mk.inj (Option.some.inj h)
    subst hr1
    subst hr2
    exact hm
  · rcases ite_or h with ⟨c14, h⟩ | ⟨c14, h⟩
    · rcases ite_or h with ⟨c20_0, h⟩ | ⟨c20_0, h⟩
      · obtain ⟨g2, h⟩ := gd_some h
        obtain ⟨hr1, hr2⟩ := Prod.mk.inj (Option.some.inj h)
        subst hr1
        subst hr2
        exact hm
      · skip
        rcases ite_or h with ⟨c20_1, h⟩ | ⟨c20_1, h⟩
        · obtain ⟨r3, er3, h⟩ := ob_some h
          obtain ⟨hr1, hr2⟩ := Prod.mk.inj (Option.some.inj h)
          subst hr1
          subst hr2
          exact hm
        · skip
          rcases ite_or h with ⟨c20_2, h⟩ | ⟨c20_2, h⟩
          · obtain ⟨r4, er4, h⟩ := ob_some h
            obtain ⟨hr1, hr2⟩ := Prod.mk.inj (Option.some.inj h)
            subst hr1
            subst hr2
            exact hm
          · skip
            rcases ite_or h with ⟨c20_3, h⟩ | ⟨c20_3, h⟩
            · obtain ⟨g5, h⟩ := gd_some h
              obtain ⟨hr1, hr2⟩ := Prod.mk.inj (Option.some.inj h)
              subst hr1
              subst hr2
              exact hm
            · skip
              rcases ite_or h with ⟨c20_4, h⟩ | ⟨c20_4, h⟩
              · obtain ⟨g6, h⟩ := gd_some h
                obtain ⟨hr1, hr2⟩ := Prod.mk.inj (Option.some.inj h)
                subst hr1
                subst hr2
                exact hm
              · skip
                rcases ite_or h with ⟨c20_5, h⟩ | ⟨c20_5, h⟩
                · obtain ⟨g7, h⟩ := gd_some h
                  obtain ⟨hr1, hr2⟩ := Prod.mk.inj (Option.some.inj h)
                  subst hr1
                  subst hr2
                  exact hm
                · skip
                  rcases ite_or h with ⟨c20_6, h⟩ | ⟨c20_6, h⟩
                  · obtain ⟨g8, h⟩ := gd_some h
                    obtain ⟨hr1, hr2⟩ := Prod.mk.inj (Option.some.inj h)
                    subst hr1
                    subst hr2
                    exact hm
                  · skip
                    rcases ite_or h with ⟨c20_7, h⟩ | ⟨c20_7, h⟩
                    · obtain ⟨g9, h⟩ := gd_some h
                      obtain ⟨hr1, hr2⟩ := Prod.mk.inj (Option.some.inj h)
                      subst hr1
                      subst hr2
                      exact hm
                    · skip
                      obtain ⟨hr1, hr2⟩ := Prod.mk.inj (Option.some.inj h)
                      subst hr1
                      subst hr2
                      exact hm
    · obtain ⟨hr1, hr2⟩ := Prod.mk.inj (Option.some.inj h)
      subst hr1
      subst hr2
      exact hm
set_option maxHeartbeats 4000000 in
set_option maxRecDepth 100000 in
theorem k_M_expect_96 {S' : HS} {x1 : Int32} {x3 : Int32} {S : HS} (h : f_M_expect_b96 x1 x3 S = some S') : S'.2.2.2 = S.2.2.2 := by
  unfold f_M_expect_b96 at h
  have hm : S.2.2.2 = S.2.2.2 := rfl
  obtain ⟨S10, eS10, h⟩ := ob_some h
  have hm := (show S10.2.2.2 = S.2.2.2 from k_M_push eS10).trans hm
  obtain ⟨S11, eS11, h⟩ := ob_some h
  have hm := (show S11.2.2.2 = S10.2.2.2 from k_M_push eS11).trans hm
  obtain ⟨S12, eS12, h⟩ := ob_some h
  have hm := (show S12.2.2.2 = S11.2.2.2 from k_M_push eS12).trans hm
  have h := Option.some.inj h
  subst h
  exact hm
set_option maxHeartbeats 4000000 in
set_option maxRecDepth 100000 in
theorem k_M_expect_117 {S' : HS} {x1 : Int32} {x3 : Int32} {S : HS} (h : f_M_expect_b117 x1 x3 S = some S') : S'.2.2.2 = S.2.2.2 := by
  unfold f_M_expect_b117 at h
  have hm : S.2.2.2 = S.2.2.2 := rfl
  obtain ⟨S13, eS13, h⟩ := ob_some h
  have hm := (show S13.2.2.2 = S.2.2.2 from k_M_push eS13).trans hm
  obtain ⟨S14, eS14, h⟩ := ob_some h
  have hm := (show S14.2.2.2 = S13.2.2.2 from k_M_push eS14).trans hm
  obtain ⟨S15, eS15, h⟩ := ob_some h
  have hm := (show S15.2.2.2 = S14.2.2.2 from k_M_push eS15).trans hm
  have h := Option.some.inj h
  subst h
  exact hm
set_option maxHeartbeats 4000000 in
set_option maxRecDepth 100000 in
theorem k_M_expect_139 {S' : HS} {x1 : Int32} {x3 : Int32} {S : HS} (h : f_M_expect_b139 x1 x3 S = some S') : S'.2.2.2 = S.2.2.2 := by
  unfold f_M_expect_b139 at h
  have hm : S.2.2.2 = S.2.2.2 := rfl
  obtain ⟨S16, eS16, h⟩ := ob_some h
  have hm := (show S16.2.2.2 = S.2.2.2 from k_M_push eS16).trans hm
  obtain ⟨S17, eS17, h⟩ := ob_some h
  have hm := (show S17.2.2.2 = S16.2.2.2 from k_M_push eS17).trans hm
  obtain ⟨S18, eS18, h⟩ := ob_some h
  have hm := (show S18.2.2.2 = S17.2.2.2 from k_M_push eS18).trans hm
  obtain ⟨S19, eS19, h⟩ := ob_some h
  have hm := (show S19.2.2.2 = S18.2.2.2 from k_M_push eS19).trans hm
  obtain ⟨S20, eS20, h⟩ := ob_some h
  have hm := (show S20.2.2.2 = S19.2.2.2 from k_M_push eS20).trans hm
  obtain ⟨S21, eS21, h⟩ := ob_some h
  have hm := (show S21.2.2.2 = S20.2.2.2 from k_M_push eS21).trans hm
  obtain ⟨S22, eS22, h⟩ := ob_some h
  have hm := (show S22.2.2.2 = S21.2.2.2 from k_M_push eS22).trans hm
  obtain ⟨S23, eS23, h⟩ := ob_some h
  have hm := (show S23.2.2.2 = S22.2.2.2 from k_M_push eS23).trans hm
  have h := Option.some.inj h
  subst h
  exact hm
set_option maxHeartbeats 4000000 in
set_option maxRecDepth 100000 in
theorem k_M_expect_192 {S' : HS} {x1 : Int32} {S : HS} (h : f_M_expect_b192 x1 S = some S') : S'.2.2.2 = S.2.2.2 := by
  unfold f_M_expect_b192 at h
  have hm : S.2.2.2 = S.2.2.2 := rfl
  obtain ⟨S26, eS26, h⟩ := ob_some h
  have hm := (show S26.2.2.2 = S.2.2.2 from k_M_push eS26).trans hm
  obtain ⟨S27, eS27, h⟩ := ob_some h
  have hm := (show S27.2.2.2 = S26.2.2.2 from k_M_push eS27).trans hm
  have h := Option.some.inj h
  subst h
  exact hm
set_option maxHeartbeats 4000000 in
set_option maxRecDepth 100000 in
theorem k_M_expect_209 {S' : HS} {x1 : Int32} {S : HS} (h : f_M_expect_b209 x1 S = some S') : S'.2.2.2 = S.2.2.2 := by
  unfold f_M_expect_b209 at h
  have hm : S.2.2.2 = S.2.2.2 := rfl
  obtain ⟨S28, eS28, h⟩ := ob_some h
  have hm := (show S28.2.2.2 = S.2.2.2 from k_M_push eS28).trans hm
  have h := Option.some.inj h
  subst h
  exact hm
set_option maxHeartbeats 4000000 in
set_option maxRecDepth 100000 in
theorem k_M_expect_255 {S' : HS} {x1 : Int32} {S : HS} (h : f_M_expect_b255 x1 S = some S') : S'.2.2.2 = S.2.2.2 := by
  unfold f_M_expect_b255 at h
  have hm : S.2.2.2 = S.2.2.2 := rfl
  obtain ⟨S24, eS24, h⟩ := ob_some h
  have hm := (show S24.2.2.2 = S.2.2.2 from k_M_push eS24).trans hm
  obtain ⟨S25, eS25, h⟩ := ob_some h
  have hm := (show S25.2.2.2 = S24.2.2.2 from k_M_push eS25).trans hm
  have h := Option.some.inj h
  subst h
  exact hm
set_option maxHeartbeats 4000000 in
set_option maxRecDepth 100000 in
theorem k_M_expect_18 {S' : HS} {x1 : Int32} {x2 : Int32} {y0 : Int32} {S : HS} (h : f_M_expect_b18 x1 x2 y0 S = some S') : S'.2.2.2 = S.2.2.2 := by
  unfold f_M_expect_b18 at h
  have hm : S.2.2.2 = S.2.2.2 := rfl
  obtain ⟨v3, ev3, h⟩ := lt_some h
  obtain ⟨S4, eS4, h⟩ := ob_some h
  have hm := (show S4.2.2.2 = S.2.2.2 from k_M_push eS4).trans hm
  rcases ite_or h with ⟨c26_10, h⟩ | ⟨c26_10, h⟩
  · exact (k_M_expect_96 h).trans hm
  · skip
    rcases ite_or h with ⟨c26_11, h⟩ | ⟨c26_11, h⟩
    · exact (k_M_expect_117 h).trans hm
    · skip
      rcases ite_or h with ⟨c26_12, h⟩ | ⟨c26_12, h⟩
      · exact (k_M_expect_139 h).trans hm
      · skip
        rcases ite_or h with ⟨c26_13, h⟩ | ⟨c26_13, h⟩
        · exact (k_M_expect_255 h).trans hm
        · skip
          rcases ite_or h with ⟨c26_14, h⟩ | ⟨c26_14, h⟩
          · exact (k_M_expect_192 h).trans hm
          · skip
            rcases ite_or h with ⟨c26_15, h⟩ | ⟨c26_15, h⟩
            · exact (k_M_expect_192 h).trans hm
            · skip
              rcases ite_or h with ⟨c26_16, h⟩ | ⟨c26_16, h⟩
              · exact (k_M_expect_209 h).trans hm
              · skip
                rcases ite_or h with ⟨c26_17, h⟩ | ⟨c26_17, h⟩
                · exact (k_M_expect_209 h).trans hm
                · skip
                  rcases ite_or h with ⟨c26_18, h⟩ | ⟨c26_18, h⟩
                  · obtain ⟨S5, eS5, h⟩ := ob_some h
                    have hm := (show S5.2.2.2 = S4.2.2.2 from k_M_push eS5).trans hm
                    obtain ⟨S6, eS6, h⟩ := ob_some h
                    have hm := (show S6.2.2.2 = S5.2.2.2 from k_M_push eS6).trans hm
                    obtain ⟨S7, eS7, h⟩ := ob_some h
                    have hm := (show S7.2.2.2 = S6.2.2.2 from k_M_push eS7).trans hm
                    obtain ⟨S8, eS8, h⟩ := ob_some h
                    have hm := (show S8.2.2.2 = S7.2.2.2 from k_M_push eS8).trans hm
                    have h := Option.some.inj h
                    subst h
                    exact hm
                  · skip
                    rcases ite_or h with ⟨c26_19, h⟩ | ⟨c26_19, h⟩
                    · obtain ⟨S9, eS9, h⟩ := ob_some h
                      have hm := (show S9.2.2.2 = S4.2.2.2 from k_M_push eS9).trans hm
                      have h := Option.some.inj h
                      subst h
                      exact hm
                    · skip
                      rcases ite_or h with ⟨c26_20, h⟩ | ⟨c26_20, h⟩
                      · exact (k_M_expect_96 h).trans hm
                      · skip
                        rcases ite_or h with ⟨c26_21, h⟩ | ⟨c26_21, h⟩
                        · exact (k_M_expect_117 h).trans hm
                        · skip
                          rcases ite_or h with ⟨c26_22, h⟩ | ⟨c26_22, h⟩
                          · exact (k_M_expect_139 h).trans hm
                          · skip
                            rcases ite_or h with ⟨c26_23, h⟩ | ⟨c26_23, h⟩
                            · exact (k_M_expect_192 h).trans hm
                            · skip
                              exact (k_M_expect_255 h).trans hm
set_option maxHeartbeats 4000000 in
set_option maxRecDepth 100000 in
theorem k_M_expect {x1 : Int32} {S : HS} {S' : HS} (h : f_M_expect x1 S = some S') : S'.2.2.2 = S.2.2.2 := by
  unfold f_M_expect at h
  have hm : S.2.2.2 = S.2.2.2 := rfl
  obtain ⟨g1, h⟩ := gd_some h
  obtain ⟨v2, ev2, h⟩ := lt_some h
  rcases ite_or h with ⟨c10, h⟩ | ⟨c10, h⟩
  · exact (k_M_expect_18 h).trans hm
  · exact (k_M_expect_18 h).trans hm
set_option maxHeartbeats 4000000 in
set_option maxRecDepth 100000 in
theorem k_M_readName_64 {n : Nat} {kc : Int32 → Int32 → HS → Option HS} {S' : HS} (hkm : ∀ (x1 : Int32) (x2 : Int32) (S : HS), kc x1 x2 S = some S' → S'.2.2.2 = S.2.2.2) {x2 : Int32} {y0 : Int32} {S : HS} (h : f_M_readName_b64 n kc x2 y0 S = some S') : S'.2.2.2 = S.2.2.2 := by
  unfold f_M_readName_b64 at h
  have hm : S.2.2.2 = S.2.2.2 := rfl
  obtain ⟨v8, ev8, h⟩ := lt_some h
  obtain ⟨g9, h⟩ := gd_some h
  obtain ⟨S10, eS10, h⟩ := lt_some h
  have hm := (show S10.2.2.2 = S.2.2.2 from by rw [eS10]; rfl).trans hm
  obtain ⟨v11, ev11, h⟩ := lt_some h
  exact (hkm _ _ _ h).trans hm
set_option maxHeartbeats 4000000 in
set_option maxRecDepth 100000 in
theorem k_M_readName_63 {n : Nat} {kc : Int32 → Int32 → HS → Option HS} {S' : HS} (hkm : ∀ (x1 : Int32) (x2 : Int32) (S : HS), kc x1 x2 S = some S' → S'.2.2.2 = S.2.2.2) {x2 : Int32} {S : HS} (h : f_M_readName_b63 n kc x2 S = some S') : S'.2.2.2 = S.2.2.2 := by
  unfold f_M_readName_b63 at h
  have hm : S.2.2.2 = S.2.2.2 := rfl
  exact (k_M_readName_64 hkm h).trans hm
set_option maxHeartbeats 4000000 in
set_option maxRecDepth 100000 in
theorem k_M_readName_35B {n : Nat} {kc : Int32 → Int32 → HS → Option HS} {S' : HS} (hkm : ∀ (x1 : Int32) (x2 : Int32) (S : HS), kc x1 x2 S = some S' → S'.2.2.2 = S.2.2.2) {x1 : Int32} {x2 : Int32} {S : HS} (h : f_M_readName_b35B n kc x1 x2 S = some S') : S'.2.2.2 = S.2.2.2 := by
  unfold f_M_readName_b35B at h
  have hm : S.2.2.2 = S.2.2.2 := rfl
  rcases ite_or h with ⟨c40, h⟩ | ⟨c40, h⟩
  · rcases ite_or h with ⟨c97, h⟩ | ⟨c97, h⟩
    · obtain ⟨S5, eS5, h⟩ := ob_some h
      have hm := (show S5.2.2.2 = S.2.2.2 from k_M_wrong eS5).trans hm
      have h := Option.some.inj h
      subst h
      exact hm
    · have h := Option.some.inj h
      subst h
      exact hm
  · rcases ite_or h with ⟨c44, h⟩ | ⟨c44, h⟩
    · exact (k_M_readName_63 hkm h).trans hm
    · obtain ⟨g6, h⟩ := gd_some h
      obtain ⟨r7, er7, h⟩ := ob_some h
      rcases ite_or h with ⟨c56, h⟩ | ⟨c56, h⟩
      · exact (k_M_readName_63 hkm h).trans hm
      · exact (k_M_readName_64 hkm h).trans hm
set_option maxHeartbeats 4000000 in
set_option maxRecDepth 100000 in
theorem k_M_readName_35 {n : Nat} (k : Nat) {S' : HS} : ∀ {x1 : Int32} {x2 : Int32} {S : HS}, f_M_readName_b35 n k x1 x2 S = some S' → S'.2.2.2 = S.2.2.2 := by
  induction k with
  | zero => intro x1 x2 S h; cases h
  | succ k ih => intro x1 x2 S h; exact k_M_readName_35B (n := n) (kc := f_M_readName_b35 n k) (fun x1 x2 S h => ih h) h
set_option maxHeartbeats 4000000 in
set_option maxRecDepth 100000 in
theorem k_M_readName_29 {n : Nat} {S' : HS} {y0 : Int32} {S : HS} (h : f_M_readName_b29 n y0 S = some S') : S'.2.2.2 = S.2.2.2 := by
  unfold f_M_readName_b29 at h
  have hm : S.2.2.2 = S.2.2.2 := rfl
  obtain ⟨v3, ev3, h⟩ := lt_some h
  obtain ⟨v4, ev4, h⟩ := lt_some h
  exact (k_M_readName_35 n h).trans hm
set_option maxHeartbeats 4000000 in
set_option maxRecDepth 100000 in
theorem k_M_readName {n : Nat} {S : HS} {S' : HS} (h : f_M_readName n S = some S') : S'.2.2.2 = S.2.2.2 := by
  unfold f_M_readName at h
  have hm : S.2.2.2 = S.2.2.2 := rfl
  obtain ⟨S1, eS1, h⟩ := lt_some h
  have hm := (show S1.2.2.2 = S.2.2.2 from by rw [eS1]; rfl).trans hm
  obtain ⟨S2, eS2, h⟩ := lt_some h
  have hm := (show S2.2.2.2 = S1.2.2.2 from by rw [eS2]; rfl).trans hm
  rcases ite_or h with ⟨c21, h⟩ | ⟨c21, h⟩
  · exact (k_M_readName_29 h).trans hm
  · exact (k_M_readName_29 h).trans hm
set_option maxHeartbeats 4000000 in
set_option maxRecDepth 100000 in
theorem k_M_readNumber_113 {n : Nat} {kc : Int32 → Int32 → Int64 → Int32 → HS → Option HS} {S' : HS} (hkm : ∀ (x1 : Int32) (x2 : Int32) (x3 : Int64) (x5 : Int32) (S : HS), kc x1 x2 x3 x5 S = some S' → S'.2.2.2 = S.2.2.2) {x1 : Int32} {x2 : Int32} {x5 : Int32} {y0 : Int64} {S : HS} (h : f_M_readNumber_b113 n kc x1 x2 x5 y0 S = some S') : S'.2.2.2 = S.2.2.2 := by
  unfold f_M_readNumber_b113 at h
  have hm : S.2.2.2 = S.2.2.2 := rfl
  obtain ⟨v14, ev14, h⟩ := lt_some h
  obtain ⟨v15, ev15, h⟩ := lt_some h
  exact (hkm _ _ _ _ _ h).trans hm
set_option maxHeartbeats 4000000 in
set_option maxRecDepth 100000 in
theorem k_M_readNumber_83 {n : Nat} {kc : Int32 → Int32 → Int64 → Int32 → HS → Option HS} {S' : HS} (hkm : ∀ (x1 : Int32) (x2 : Int32) (x3 : Int64) (x5 : Int32) (S : HS), kc x1 x2 x3 x5 S = some S' → S'.2.2.2 = S.2.2.2) {x1 : Int32} {x3 : Int64} {x5 : Int32} {y0 : Int32} {S : HS} (h : f_M_readNumber_b83 n kc x1 x3 x5 y0 S = some S') : S'.2.2.2 = S.2.2.2 := by
  unfold f_M_readNumber_b83 at h
  have hm : S.2.2.2 = S.2.2.2 := rfl
  obtain ⟨v10, ev10, h⟩ := lt_some h
  rcases ite_or h with ⟨c89, h⟩ | ⟨c89, h⟩
  · obtain ⟨g11, h⟩ := gd_some h
    exact (k_M_readNumber_113 hkm h).trans hm
  · exact (k_M_readNumber_113 hkm h).trans hm
set_option maxHeartbeats 4000000 in
set_option maxRecDepth 100000 in
theorem k_M_readNumber_82 {n : Nat} {kc : Int32 → Int32 → Int64 → Int32 → HS → Option HS} {S' : HS} (hkm : ∀ (x1 : Int32) (x2 : Int32) (x3 : Int64) (x5 : Int32) (S : HS), kc x1 x2 x3 x5 S = some S' → S'.2.2.2 = S.2.2.2) {x1 : Int32} {x3 : Int64} {x5 : Int32} {S : HS} (h : f_M_readNumber_b82 n kc x1 x3 x5 S = some S') : S'.2.2.2 = S.2.2.2 := by
  unfold f_M_readNumber_b82 at h
  have hm : S.2.2.2 = S.2.2.2 := rfl
  exact (k_M_readNumber_83 hkm h).trans hm
set_option maxHeartbeats 4000000 in
set_option maxRecDepth 100000 in
theorem k_M_readNumber_164 {n : Nat} {S' : HS} {x3 : Int64} {S : HS} (h : f_M_readNumber_b164 n x3 S = some S') : S'.2.2.2 = S.2.2.2 := by
  unfold f_M_readNumber_b164 at h
  have hm : S.2.2.2 = S.2.2.2 := rfl
  obtain ⟨S13, eS13, h⟩ := lt_some h
  have hm := (show S13.2.2.2 = S.2.2.2 from by rw [eS13]; rfl).trans hm
  have h := Option.some.inj h
  subst h
  exact hm
set_option maxHeartbeats 4000000 in
set_option maxRecDepth 100000 in
theorem k_M_readNumber_155 {n : Nat} {S' : HS} {x3 : Int64} {S : HS} (h : f_M_readNumber_b155 n x3 S = some S') : S'.2.2.2 = S.2.2.2 := by
  unfold f_M_readNumber_b155 at h
  have hm : S.2.2.2 = S.2.2.2 := rfl
  obtain ⟨S12, eS12, h⟩ := ob_some h
  have hm := (show S12.2.2.2 = S.2.2.2 from k_M_wrong eS12).trans hm
  exact (k_M_readNumber_164 h).trans hm
set_option maxHeartbeats 4000000 in
set_option maxRecDepth 100000 in
theorem k_M_readNumber_134 {n : Nat} {S' : HS} {x2 : Int32} {y0 : Int64} {S : HS} (h : f_M_readNumber_b134 n x2 y0 S = some S') : S'.2.2.2 = S.2.2.2 := by
  unfold f_M_readNumber_b134 at h
  have hm : S.2.2.2 = S.2.2.2 := rfl
  obtain ⟨v9, ev9, h⟩ := lt_some h
  rcases ite_or h with ⟨c136, h⟩ | ⟨c136, h⟩
  · exact (k_M_readNumber_155 h).trans hm
  · rcases ite_or h with ⟨c144, h⟩ | ⟨c144, h⟩
    · exact (k_M_readNumber_155 h).trans hm
    · rcases ite_or h with ⟨c152, h⟩ | ⟨c152, h⟩
      · exact (k_M_readNumber_164 h).trans hm
      · exact (k_M_readNumber_155 h).trans hm
set_option maxHeartbeats 4000000 in
set_option maxRecDepth 100000 in
theorem k_M_readNumber_52B {n : Nat} {kc : Int32 → Int32 → Int64 → Int32 → HS → Option HS} {S' : HS} (hkm : ∀ (x1 : Int32) (x2 : Int32) (x3 : Int64) (x5 : Int32) (S : HS), kc x1 x2 x3 x5 S = some S' → S'.2.2.2 = S.2.2.2) {x1 : Int32} {x2 : Int32} {x3 : Int64} {x5 : Int32} {S : HS} (h : f_M_readNumber_b52B n kc x1 x2 x3 x5 S = some S') : S'.2.2.2 = S.2.2.2 := by
  unfold f_M_readNumber_b52B at h
  have hm : S.2.2.2 = S.2.2.2 := rfl
  rcases ite_or h with ⟨c58, h⟩ | ⟨c58, h⟩
  · rcases ite_or h with ⟨c125, h⟩ | ⟨c125, h⟩
    · exact (k_M_readNumber_134 h).trans hm
    · exact (k_M_readNumber_134 h).trans hm
  · rcases ite_or h with ⟨c62, h⟩ | ⟨c62, h⟩
    · exact (k_M_readNumber_82 hkm h).trans hm
    · obtain ⟨g7, h⟩ := gd_some h
      obtain ⟨r8, er8, h⟩ := ob_some h
      rcases ite_or h with ⟨c75, h⟩ | ⟨c75, h⟩
      · exact (k_M_readNumber_82 hkm h).trans hm
      · exact (k_M_readNumber_83 hkm h).trans hm
set_option maxHeartbeats 4000000 in
set_option maxRecDepth 100000 in
theorem k_M_readNumber_52 {n : Nat} (k : Nat) {S' : HS} : ∀ {x1 : Int32} {x2 : Int32} {x3 : Int64} {x5 : Int32} {S : HS}, f_M_readNumber_b52 n k x1 x2 x3 x5 S = some S' → S'.2.2.2 = S.2.2.2 := by
  induction k with
  | zero => intro x1 x2 x3 x5 S h; cases h
  | succ k ih => intro x1 x2 x3 x5 S h; exact k_M_readNumber_52B (n := n) (kc := f_M_readNumber_b52 n k) (fun x1 x2 x3 x5 S h => ih h) h
set_option maxHeartbeats 4000000 in
set_option maxRecDepth 100000 in
theorem k_M_readNumber_46 {n : Nat} {S' : HS} {x1 : Int32} {y0 : Int32} {S : HS} (h : f_M_readNumber_b46 n x1 y0 S = some S') : S'.2.2.2 = S.2.2.2 := by
  unfold f_M_readNumber_b46 at h
  have hm : S.2.2.2 = S.2.2.2 := rfl
  obtain ⟨v4, ev4, h⟩ := lt_some h
  obtain ⟨v5, ev5, h⟩ := lt_some h
  obtain ⟨v6, ev6, h⟩ := lt_some h
  exact (k_M_readNumber_52 n h).trans hm
set_option maxHeartbeats 4000000 in
set_option maxRecDepth 100000 in
theorem k_M_readNumber_32 {n : Nat} {S' : HS} {y0 : Int32} {S : HS} (h : f_M_readNumber_b32 n y0 S = some S') : S'.2.2.2 = S.2.2.2 := by
  unfold f_M_readNumber_b32 at h
  have hm : S.2.2.2 = S.2.2.2 := rfl
  obtain ⟨v3, ev3, h⟩ := lt_some h
  rcases ite_or h with ⟨c38, h⟩ | ⟨c38, h⟩
  · exact (k_M_readNumber_46 h).trans hm
  · exact (k_M_readNumber_46 h).trans hm
set_option maxHeartbeats 4000000 in
set_option maxRecDepth 100000 in
theorem k_M_readNumber {n : Nat} {S : HS} {S' : HS} (h : f_M_readNumber n S = some S') : S'.2.2.2 = S.2.2.2 := by
  unfold f_M_readNumber at h
  have hm : S.2.2.2 = S.2.2.2 := rfl
  obtain ⟨S1, eS1, h⟩ := lt_some h
  have hm := (show S1.2.2.2 = S.2.2.2 from by rw [eS1]; rfl).trans hm
  obtain ⟨g2, h⟩ := gd_some h
  rcases ite_or h with ⟨c16, h⟩ | ⟨c16, h⟩
  · exact (k_M_readNumber_32 h).trans hm
  · exact (k_M_readNumber_32 h).trans hm
set_option maxHeartbeats 4000000 in
set_option maxRecDepth 100000 in
theorem k_M_next_39 {n : Nat} {kc : HS → Option HS} {S' : HS} (hkm : ∀ (S : HS), kc S = some S' → S'.2.2.2 = S.2.2.2) {S : HS} (h : f_M_next_b39 n kc S = some S') : S'.2.2.2 = S.2.2.2 := by
  unfold f_M_next_b39 at h
  have hm : S.2.2.2 = S.2.2.2 := rfl
  obtain ⟨S7, eS7, h⟩ := lt_some h
  have hm := (show S7.2.2.2 = S.2.2.2 from by rw [eS7]; rfl).trans hm
  exact (hkm _ h).trans hm
set_option maxHeartbeats 4000000 in
set_option maxRecDepth 100000 in
theorem k_M_next_125 {n : Nat} {S' : HS} {y0 : Int32} {S : HS} (h : f_M_next_b125 n y0 S = some S') : S'.2.2.2 = S.2.2.2 := by
  unfold f_M_next_b125 at h
  have hm : S.2.2.2 = S.2.2.2 := rfl
  obtain ⟨S16, eS16, h⟩ := lt_some h
  have hm := (show S16.2.2.2 = S.2.2.2 from by rw [eS16]; rfl).trans hm
  obtain ⟨S17, eS17, h⟩ := lt_some h
  have hm := (show S17.2.2.2 = S16.2.2.2 from by rw [eS17]; rfl).trans hm
  have h := Option.some.inj h
  subst h
  exact hm
set_option maxHeartbeats 4000000 in
set_option maxRecDepth 100000 in
theorem k_M_next_105 {n : Nat} {S' : HS} {S : HS} (h : f_M_next_b105 n S = some S') : S'.2.2.2 = S.2.2.2 := by
  unfold f_M_next_b105 at h
  have hm : S.2.2.2 = S.2.2.2 := rfl
  obtain ⟨g8, h⟩ := gd_some h
  rcases ite_or h with ⟨c117, h⟩ | ⟨c117, h⟩
  · exact (k_M_next_125 h).trans hm
  · exact (k_M_next_125 h).trans hm
set_option maxHeartbeats 4000000 in
set_option maxRecDepth 100000 in
theorem k_M_next_139B {n : Nat} {kc : HS → Option HS} {S' : HS} (hkm : ∀ (S : HS), kc S = some S' → S'.2.2.2 = S.2.2.2) {S : HS} (h : f_M_next_b139B n kc S = some S') : S'.2.2.2 = S.2.2.2 := by
  unfold f_M_next_b139B at h
  have hm : S.2.2.2 = S.2.2.2 := rfl
  obtain ⟨r9, er9, h⟩ := ob_some h
  rcases ite_or h with ⟨c147, h⟩ | ⟨c147, h⟩
  · rcases ite_or h with ⟨c171, h⟩ | ⟨c171, h⟩
    · obtain ⟨S14, eS14, h⟩ := ob_some h
      have hm := (show S14.2.2.2 = S.2.2.2 from k_M_wrong eS14).trans hm
      have h := Option.some.inj h
      subst h
      exact hm
    · obtain ⟨g10, h⟩ := gd_some h
      obtain ⟨r11, er11, h⟩ := ob_some h
      rcases ite_or h with ⟨c196, h⟩ | ⟨c196, h⟩
      · obtain ⟨S12, eS12, h⟩ := ob_some h
        have hm := (show S12.2.2.2 = S.2.2.2 from k_M_readNumber eS12).trans hm
        have h := Option.some.inj h
        subst h
        exact hm
      · obtain ⟨S13, eS13, h⟩ := ob_some h
        have hm := (show S13.2.2.2 = S.2.2.2 from k_M_readName eS13).trans hm
        have h := Option.some.inj h
        subst h
        exact hm
  · obtain ⟨S15, eS15, h⟩ := lt_some h
    have hm := (show S15.2.2.2 = S.2.2.2 from by rw [eS15]; rfl).trans hm
    exact (hkm _ h).trans hm
set_option maxHeartbeats 4000000 in
set_option maxRecDepth 100000 in
theorem k_M_next_139 {n : Nat} (k : Nat) {S' : HS} : ∀ {S : HS}, f_M_next_b139 n k S = some S' → S'.2.2.2 = S.2.2.2 := by
  induction k with
  | zero => intro S h; cases h
  | succ k ih => intro S h; exact k_M_next_139B (n := n) (kc := f_M_next_b139 n k) (fun S h => ih h) h
set_option maxHeartbeats 4000000 in
set_option maxRecDepth 100000 in
theorem k_M_next_52 {n : Nat} {S' : HS} {S : HS} (h : f_M_next_b52 n S = some S') : S'.2.2.2 = S.2.2.2 := by
  unfold f_M_next_b52 at h
  have hm : S.2.2.2 = S.2.2.2 := rfl
  obtain ⟨S3, eS3, h⟩ := lt_some h
  have hm := (show S3.2.2.2 = S.2.2.2 from by rw [eS3]; rfl).trans hm
  rcases ite_or h with ⟨c68, h⟩ | ⟨c68, h⟩
  · obtain ⟨S6, eS6, h⟩ := lt_some h
    have hm := (show S6.2.2.2 = S3.2.2.2 from by rw [eS6]; rfl).trans hm
    have h := Option.some.inj h
    subst h
    exact hm
  · obtain ⟨g4, h⟩ := gd_some h
    rcases ite_or h with ⟨c88, h⟩ | ⟨c88, h⟩
    · exact (k_M_next_105 h).trans hm
    · obtain ⟨g5, h⟩ := gd_some h
      rcases ite_or h with ⟨c102, h⟩ | ⟨c102, h⟩
      · exact (k_M_next_105 h).trans hm
      · exact (k_M_next_139 n h).trans hm
set_option maxHeartbeats 4000000 in
set_option maxRecDepth 100000 in
theorem k_M_next_0B {n : Nat} {kc : HS → Option HS} {S' : HS} (hkm : ∀ (S : HS), kc S = some S' → S'.2.2.2 = S.2.2.2) {S : HS} (h : f_M_next_b0B n kc S = some S') : S'.2.2.2 = S.2.2.2 := by
  unfold f_M_next_b0B at h
  have hm : S.2.2.2 = S.2.2.2 := rfl
  rcases ite_or h with ⟨c8, h⟩ | ⟨c8, h⟩
  · exact (k_M_next_52 h).trans hm
  · obtain ⟨g1, h⟩ := gd_some h
    rcases ite_or h with ⟨c22, h⟩ | ⟨c22, h⟩
    · exact (k_M_next_39 hkm h).trans hm
    · obtain ⟨g2, h⟩ := gd_some h
      rcases ite_or h with ⟨c36, h⟩ | ⟨c36, h⟩
      · exact (k_M_next_39 hkm h).trans hm
      · exact (k_M_next_52 h).trans hm
set_option maxHeartbeats 4000000 in
set_option maxRecDepth 100000 in
theorem k_M_next_0 {n : Nat} (k : Nat) {S' : HS} : ∀ {S : HS}, f_M_next_b0 n k S = some S' → S'.2.2.2 = S.2.2.2 := by
  induction k with
  | zero => intro S h; cases h
  | succ k ih => intro S h; exact k_M_next_0B (n := n) (kc := f_M_next_b0 n k) (fun S h => ih h) h
set_option maxHeartbeats 4000000 in
set_option maxRecDepth 100000 in
theorem k_M_next {n : Nat} {S : HS} {S' : HS} (h : f_M_next n S = some S') : S'.2.2.2 = S.2.2.2 := by
  unfold f_M_next at h
  have hm : S.2.2.2 = S.2.2.2 := rfl
  exact (k_M_next_0 n h).trans hm
set_option maxHeartbeats 4000000 in
set_option maxRecDepth 100000 in
theorem k_M_must_44 {r : Int32} {S' : HS} {S : HS} (h : f_M_must_b44 S = some (r, S')) : S'.2.2.2 = S.2.2.2 := by
  unfold f_M_must_b44 at h
  have hm : S.2.2.2 = S.2.2.2 := rfl
  rcases ite_or h with ⟨c48, h⟩ | ⟨c48, h⟩
  · obtain ⟨hr1, hr2⟩ := Prod.mk.inj (Option.some.inj h)
    subst hr1
    subst hr2
    exact hm
  · obtain ⟨hr1, hr2⟩ := Prod.mk.inj (Option.some.inj h)
    subst hr1
    subst hr2
    exact hm
set_option maxHeartbeats 4000000 in
set_option maxRecDepth 100000 in
theorem k_M_must_24 {r : Int32} {S' : HS} {x1 : Int32} {S : HS} (h : f_M_must_b24 x1 S = some (r, S')) : S'.2.2.2 = S.2.2.2 := by
  unfold f_M_must_b24 at h
  have hm : S.2.2.2 = S.2.2.2 := rfl
  rcases ite_or h with ⟨c28, h⟩ | ⟨c28, h⟩
  · rcases ite_or h with ⟨c32, h⟩ | ⟨c32, h⟩
    · obtain ⟨S2, eS2, h⟩ := ob_some h
      have hm := (show S2.2.2.2 = S.2.2.2 from k_M_wrong eS2).trans hm
      exact (k_M_must_44 h).trans hm
    · exact (k_M_must_44 h).trans hm
  · exact (k_M_must_44 h).trans hm
set_option maxHeartbeats 4000000 in
set_option maxRecDepth 100000 in
theorem k_M_must {x1 : Int32} {S : HS} {r : Int32} {S' : HS} (h : f_M_must x1 S = some (r, S')) : S'.2.2.2 = S.2.2.2 := by
  unfold f_M_must at h
  have hm : S.2.2.2 = S.2.2.2 := rfl
  rcases ite_or h with ⟨c4, h⟩ | ⟨c4, h⟩
  · rcases ite_or h with ⟨c12, h⟩ | ⟨c12, h⟩
    · obtain ⟨S1, eS1, h⟩ := ob_some h
      have hm := (show S1.2.2.2 = S.2.2.2 from k_M_wrong eS1).trans hm
      exact (k_M_must_24 h).trans hm
    · exact (k_M_must_24 h).trans hm
  · exact (k_M_must_24 h).trans hm
set_option maxHeartbeats 4000000 in
set_option maxRecDepth 100000 in
theorem k_M_bind_15 {S' : HS} {y0 : Int32} {S : HS} (h : f_M_bind_b15 y0 S = some S') : S'.2.2.2 = S.2.2.2 := by
  unfold f_M_bind_b15 at h
  have hm : S.2.2.2 = S.2.2.2 := rfl
  obtain ⟨r2, S1, eS1, h⟩ := ob2_some h
  have hm := (show S1.2.2.2 = S.2.2.2 from k_M_must eS1).trans hm
  rcases ite_or h with ⟨c18, h⟩ | ⟨c18, h⟩
  · have h := Option.some.inj h
    subst h
    exact hm
  · obtain ⟨S3, eS3, h⟩ := lt_some h
    have hm := (show S3.2.2.2 = S1.2.2.2 from by rw [eS3]; rfl).trans hm
    have h := Option.some.inj h
    subst h
    exact hm
set_option maxHeartbeats 4000000 in
set_option maxRecDepth 100000 in
theorem k_M_bind {S : HS} {S' : HS} (h : f_M_bind S = some S') : S'.2.2.2 = S.2.2.2 := by
  unfold f_M_bind at h
  have hm : S.2.2.2 = S.2.2.2 := rfl
  rcases ite_or h with ⟨c7, h⟩ | ⟨c7, h⟩
  · exact (k_M_bind_15 h).trans hm
  · exact (k_M_bind_15 h).trans hm
set_option maxHeartbeats 4000000 in
set_option maxRecDepth 100000 in
theorem k_M_letBinds_15 {S' : HS} {x1 : Int32} {y0 : Int32} {S : HS} (h : f_M_letBinds_b15 x1 y0 S = some S') : S'.2.2.2 = S.2.2.2 := by
  unfold f_M_letBinds_b15 at h
  have hm : S.2.2.2 = S.2.2.2 := rfl
  obtain ⟨r2, S1, eS1, h⟩ := ob2_some h
  have hm := (show S1.2.2.2 = S.2.2.2 from k_M_must eS1).trans hm
  rcases ite_or h with ⟨c18, h⟩ | ⟨c18, h⟩
  · have h := Option.some.inj h
    subst h
    exact hm
  · obtain ⟨S3, eS3, h⟩ := ob_some h
    have hm := (show S3.2.2.2 = S1.2.2.2 from k_M_push eS3).trans hm
    obtain ⟨S4, eS4, h⟩ := ob_some h
    have hm := (show S4.2.2.2 = S3.2.2.2 from k_M_push eS4).trans hm
    have h := Option.some.inj h
    subst h
    exact hm
set_option maxHeartbeats 4000000 in
set_option maxRecDepth 100000 in
theorem k_M_letBinds {x1 : Int32} {S : HS} {S' : HS} (h : f_M_letBinds x1 S = some S') : S'.2.2.2 = S.2.2.2 := by
  unfold f_M_letBinds at h
  have hm : S.2.2.2 = S.2.2.2 := rfl
  rcases ite_or h with ⟨c7, h⟩ | ⟨c7, h⟩
  · exact (k_M_letBinds_15 h).trans hm
  · exact (k_M_letBinds_15 h).trans hm
set_option maxHeartbeats 4000000 in
set_option maxRecDepth 100000 in
theorem k_M_begin_150 {n : Nat} {S' : HS} {x3 : Int32} {x4 : Int32} {y0 : Int32} {S : HS} (h : f_M_begin_b150 n x3 x4 y0 S = some S') : S'.2.2.2 = S.2.2.2 := by
  unfold f_M_begin_b150 at h
  have hm : S.2.2.2 = S.2.2.2 := rfl
  obtain ⟨r25, S24, eS24, h⟩ := ob2_some h
  have hm := (show S24.2.2.2 = S.2.2.2 from k_M_must eS24).trans hm
  rcases ite_or h with ⟨c153, h⟩ | ⟨c153, h⟩
  · have h := Option.some.inj h
    subst h
    exact hm
  · obtain ⟨g26, h⟩ := gd_some h
    obtain ⟨S27, eS27, h⟩ := lt_some h
    have hm := (show S27.2.2.2 = S24.2.2.2 from by rw [eS27]; rfl).trans hm
    obtain ⟨S28, eS28, h⟩ := ob_some h
    have hm := (show S28.2.2.2 = S27.2.2.2 from k_M_expect eS28).trans hm
    have h := Option.some.inj h
    subst h
    exact hm
set_option maxHeartbeats 4000000 in
set_option maxRecDepth 100000 in
theorem k_M_begin_137 {n : Nat} {S' : HS} {x3 : Int32} {y0 : Int32} {S : HS} (h : f_M_begin_b137 n x3 y0 S = some S') : S'.2.2.2 = S.2.2.2 := by
  unfold f_M_begin_b137 at h
  have hm : S.2.2.2 = S.2.2.2 := rfl
  obtain ⟨v23, ev23, h⟩ := lt_some h
  rcases ite_or h with ⟨c142, h⟩ | ⟨c142, h⟩
  · exact (k_M_begin_150 h).trans hm
  · exact (k_M_begin_150 h).trans hm
set_option maxHeartbeats 4000000 in
set_option maxRecDepth 100000 in
theorem k_M_begin_94 {n : Nat} {S' : HS} {x1 : Int32} {x2 : Int32} {y0 : Int32} {S : HS} (h : f_M_begin_b94 n x1 x2 y0 S = some S') : S'.2.2.2 = S.2.2.2 := by
  unfold f_M_begin_b94 at h
  have hm : S.2.2.2 = S.2.2.2 := rfl
  obtain ⟨r16, S15, eS15, h⟩ := ob2_some h
  have hm := (show S15.2.2.2 = S.2.2.2 from k_M_must eS15).trans hm
  rcases ite_or h with ⟨c97, h⟩ | ⟨c97, h⟩
  · have h := Option.some.inj h
    subst h
    exact hm
  · obtain ⟨r18, S17, eS17, h⟩ := ob2_some h
    have hm := (show S17.2.2.2 = S15.2.2.2 from k_M_make eS17).trans hm
    obtain ⟨v19, ev19, h⟩ := lt_some h
    obtain ⟨S20, eS20, h⟩ := ob_some h
    have hm := (show S20.2.2.2 = S17.2.2.2 from k_M_next eS20).trans hm
    rcases ite_or h with ⟨c115, h⟩ | ⟨c115, h⟩
    · rcases ite_or h with ⟨c123, h⟩ | ⟨c123, h⟩
      · obtain ⟨r21, er21, h⟩ := ob_some h
        exact (k_M_begin_137 h).trans hm
      · obtain ⟨r22, er22, h⟩ := ob_some h
        exact (k_M_begin_137 h).trans hm
    · exact (k_M_begin_137 h).trans hm
set_option maxHeartbeats 4000000 in
set_option maxRecDepth 100000 in
theorem k_M_begin_81 {n : Nat} {S' : HS} {x1 : Int32} {x2 : Int32} {S : HS} (h : f_M_begin_b81 n x1 x2 S = some S') : S'.2.2.2 = S.2.2.2 := by
  unfold f_M_begin_b81 at h
  have hm : S.2.2.2 = S.2.2.2 := rfl
  rcases ite_or h with ⟨c86, h⟩ | ⟨c86, h⟩
  · exact (k_M_begin_94 h).trans hm
  · exact (k_M_begin_94 h).trans hm
set_option maxHeartbeats 4000000 in
set_option maxRecDepth 100000 in
theorem k_M_begin_58 {n : Nat} {S' : HS} {x1 : Int32} {x2 : Int32} {S : HS} (h : f_M_begin_b58 n x1 x2 S = some S') : S'.2.2.2 = S.2.2.2 := by
  unfold f_M_begin_b58 at h
  have hm : S.2.2.2 = S.2.2.2 := rfl
  rcases ite_or h with ⟨c59, h⟩ | ⟨c59, h⟩
  · exact (k_M_begin_81 h).trans hm
  · obtain ⟨r11, er11, h⟩ := ob_some h
    rcases ite_or h with ⟨c68, h⟩ | ⟨c68, h⟩
    · exact (k_M_begin_81 h).trans hm
    · obtain ⟨r13, S12, eS12, h⟩ := ob2_some h
      have hm := (show S12.2.2.2 = S.2.2.2 from k_M_make eS12).trans hm
      obtain ⟨v14, ev14, h⟩ := lt_some h
      have h := Option.some.inj h
      subst h
      exact hm
set_option maxHeartbeats 4000000 in
set_option maxRecDepth 100000 in
theorem k_M_begin_32 {n : Nat} {S' : HS} {x1 : Int32} {x2 : Int32} {S : HS} (h : f_M_begin_b32 n x1 x2 S = some S') : S'.2.2.2 = S.2.2.2 := by
  unfold f_M_begin_b32 at h
  have hm : S.2.2.2 = S.2.2.2 := rfl
  rcases ite_or h with ⟨c33, h⟩ | ⟨c33, h⟩
  · exact (k_M_begin_58 h).trans hm
  · obtain ⟨r6, er6, h⟩ := ob_some h
    rcases ite_or h with ⟨c40, h⟩ | ⟨c40, h⟩
    · exact (k_M_begin_58 h).trans hm
    · obtain ⟨r8, S7, eS7, h⟩ := ob2_some h
      have hm := (show S7.2.2.2 = S.2.2.2 from k_M_make eS7).trans hm
      obtain ⟨v9, ev9, h⟩ := lt_some h
      obtain ⟨S10, eS10, h⟩ := ob_some h
      have hm := (show S10.2.2.2 = S7.2.2.2 from k_M_setName eS10).trans hm
      have h := Option.some.inj h
      subst h
      exact hm
set_option maxHeartbeats 4000000 in
set_option maxRecDepth 100000 in
theorem k_M_begin {n : Nat} {x1 : Int32} {x2 : Int32} {S : HS} {S' : HS} (h : f_M_begin n x1 x2 S = some S') : S'.2.2.2 = S.2.2.2 := by
  unfold f_M_begin at h
  have hm : S.2.2.2 = S.2.2.2 := rfl
  rcases ite_or h with ⟨c5, h⟩ | ⟨c5, h⟩
  · rcases ite_or h with ⟨c9, h⟩ | ⟨c9, h⟩
    · exact (k_M_begin_32 h).trans hm
    · obtain ⟨r2, S1, eS1, h⟩ := ob2_some h
      have hm := (show S1.2.2.2 = S.2.2.2 from k_M_make eS1).trans hm
      obtain ⟨v3, ev3, h⟩ := lt_some h
      obtain ⟨g4, h⟩ := gd_some h
      obtain ⟨S5, eS5, h⟩ := lt_some h
      have hm := (show S5.2.2.2 = S1.2.2.2 from by rw [eS5]; rfl).trans hm
      have h := Option.some.inj h
      subst h
      exact hm
  · exact (k_M_begin_32 h).trans hm
set_option maxHeartbeats 4000000 in
set_option maxRecDepth 100000 in
theorem k_M_step_68 {n : Nat} {S' : HS} {y0 : Int32} {y1 : Int32} {S : HS} (h : f_M_step_b68 n y0 y1 S = some S') : S'.2.2.2 = S.2.2.2 := by
  unfold f_M_step_b68 at h
  have hm : S.2.2.2 = S.2.2.2 := rfl
  obtain ⟨S37, eS37, h⟩ := lt_some h
  have hm := (show S37.2.2.2 = S.2.2.2 from by rw [eS37]; rfl).trans hm
  have h := Option.some.inj h
  subst h
  exact hm
set_option maxHeartbeats 4000000 in
set_option maxRecDepth 100000 in
theorem k_M_step_63 {n : Nat} {S' : HS} {y0 : Int32} {S : HS} (h : f_M_step_b63 n y0 S = some S') : S'.2.2.2 = S.2.2.2 := by
  unfold f_M_step_b63 at h
  have hm : S.2.2.2 = S.2.2.2 := rfl
  exact (k_M_step_68 h).trans hm
set_option maxHeartbeats 4000000 in
set_option maxRecDepth 100000 in
theorem k_M_step_139 {n : Nat} {S' : HS} {x2 : Int32} {y0 : Int32} {S : HS} (h : f_M_step_b139 n x2 y0 S = some S') : S'.2.2.2 = S.2.2.2 := by
  unfold f_M_step_b139 at h
  have hm : S.2.2.2 = S.2.2.2 := rfl
  obtain ⟨S38, eS38, h⟩ := ob_some h
  have hm := (show S38.2.2.2 = S.2.2.2 from k_M_begin eS38).trans hm
  have h := Option.some.inj h
  subst h
  exact hm
set_option maxHeartbeats 4000000 in
set_option maxRecDepth 100000 in
theorem k_M_step_128 {n : Nat} {S' : HS} {x1 : Int32} {x2 : Int32} {S : HS} (h : f_M_step_b128 n x1 x2 S = some S') : S'.2.2.2 = S.2.2.2 := by
  unfold f_M_step_b128 at h
  have hm : S.2.2.2 = S.2.2.2 := rfl
  rcases ite_or h with ⟨c131, h⟩ | ⟨c131, h⟩
  · exact (k_M_step_139 h).trans hm
  · exact (k_M_step_139 h).trans hm
set_option maxHeartbeats 4000000 in
set_option maxRecDepth 100000 in
theorem k_M_step_160 {n : Nat} {S' : HS} {y0 : Int32} {S : HS} (h : f_M_step_b160 n y0 S = some S') : S'.2.2.2 = S.2.2.2 := by
  unfold f_M_step_b160 at h
  have hm : S.2.2.2 = S.2.2.2 := rfl
  obtain ⟨r26, S25, eS25, h⟩ := ob2_some h
  have hm := (show S25.2.2.2 = S.2.2.2 from k_M_must eS25).trans hm
  have h := Option.some.inj h
  subst h
  exact hm
set_option maxHeartbeats 4000000 in
set_option maxRecDepth 100000 in
theorem k_M_step_180 {n : Nat} {S' : HS} {y0 : Int32} {S : HS} (h : f_M_step_b180 n y0 S = some S') : S'.2.2.2 = S.2.2.2 := by
  unfold f_M_step_b180 at h
  have hm : S.2.2.2 = S.2.2.2 := rfl
  obtain ⟨r28, S27, eS27, h⟩ := ob2_some h
  have hm := (show S27.2.2.2 = S.2.2.2 from k_M_must eS27).trans hm
  have h := Option.some.inj h
  subst h
  exact hm
set_option maxHeartbeats 4000000 in
set_option maxRecDepth 100000 in
theorem k_M_step_225 {n : Nat} {S' : HS} {x2 : Int32} {S : HS} (h : f_M_step_b225 n x2 S = some S') : S'.2.2.2 = S.2.2.2 := by
  unfold f_M_step_b225 at h
  have hm : S.2.2.2 = S.2.2.2 := rfl
  obtain ⟨S29, eS29, h⟩ := ob_some h
  have hm := (show S29.2.2.2 = S.2.2.2 from k_M_letBinds eS29).trans hm
  have h := Option.some.inj h
  subst h
  exact hm
set_option maxHeartbeats 4000000 in
set_option maxRecDepth 100000 in
theorem k_M_step_267 {n : Nat} {S' : HS} {x2 : Int32} {y0 : Int32} {S : HS} (h : f_M_step_b267 n x2 y0 S = some S') : S'.2.2.2 = S.2.2.2 := by
  unfold f_M_step_b267 at h
  have hm : S.2.2.2 = S.2.2.2 := rfl
  obtain ⟨r31, S30, eS30, h⟩ := ob2_some h
  have hm := (show S30.2.2.2 = S.2.2.2 from k_M_must eS30).trans hm
  rcases ite_or h with ⟨c270, h⟩ | ⟨c270, h⟩
  · have h := Option.some.inj h
    subst h
    exact hm
  · obtain ⟨g32, h⟩ := gd_some h
    obtain ⟨S33, eS33, h⟩ := lt_some h
    have hm := (show S33.2.2.2 = S30.2.2.2 from by rw [eS33]; rfl).trans hm
    obtain ⟨g34, h⟩ := gd_some h
    obtain ⟨S35, eS35, h⟩ := lt_some h
    have hm := (show S35.2.2.2 = S33.2.2.2 from by rw [eS35]; rfl).trans hm
    obtain ⟨S36, eS36, h⟩ := ob_some h
    have hm := (show S36.2.2.2 = S35.2.2.2 from k_M_bind eS36).trans hm
    have h := Option.some.inj h
    subst h
    exact hm
set_option maxHeartbeats 4000000 in
set_option maxRecDepth 100000 in
theorem k_M_step_266 {n : Nat} {S' : HS} {x2 : Int32} {S : HS} (h : f_M_step_b266 n x2 S = some S') : S'.2.2.2 = S.2.2.2 := by
  unfold f_M_step_b266 at h
  have hm : S.2.2.2 = S.2.2.2 := rfl
  exact (k_M_step_267 h).trans hm
set_option maxHeartbeats 4000000 in
set_option maxRecDepth 100000 in
theorem k_M_step {n : Nat} {S : HS} {S' : HS} (h : f_M_step n S = some S') : S'.2.2.2 = S.2.2.2 := by
  unfold f_M_step at h
  have hm : S.2.2.2 = S.2.2.2 := rfl
  obtain ⟨S1, eS1, h⟩ := lt_some h
  have hm := (show S1.2.2.2 = S.2.2.2 from by rw [eS1]; rfl).trans hm
  obtain ⟨g2, h⟩ := gd_some h
  obtain ⟨v3, ev3, h⟩ := lt_some h
  obtain ⟨g4, h⟩ := gd_some h
  obtain ⟨v5, ev5, h⟩ := lt_some h
  rcases ite_or h with ⟨c33, h⟩ | ⟨c33, h⟩
  · obtain ⟨g23, h⟩ := gd_some h
    rcases ite_or h with ⟨c49, h⟩ | ⟨c49, h⟩
    · exact (k_M_step_63 h).trans hm
    · obtain ⟨g24, h⟩ := gd_some h
      rcases ite_or h with ⟨c60, h⟩ | ⟨c60, h⟩
      · exact (k_M_step_63 h).trans hm
      · exact (k_M_step_68 h).trans hm
  · obtain ⟨S6, eS6, h⟩ := ob_some h
    have hm := (show S6.2.2.2 = S1.2.2.2 from k_M_next eS6).trans hm
    rcases ite_or h with ⟨c81, h⟩ | ⟨c81, h⟩
    · rcases ite_or h with ⟨c86_1, h⟩ | ⟨c86_1, h⟩
      · exact (k_M_step_128 h).trans hm
      · skip
        rcases ite_or h with ⟨c86_2, h⟩ | ⟨c86_2, h⟩
        · exact (k_M_step_128 h).trans hm
        · skip
          rcases ite_or h with ⟨c86_3, h⟩ | ⟨c86_3, h⟩
          · rcases ite_or h with ⟨c152, h⟩ | ⟨c152, h⟩
            · exact (k_M_step_160 h).trans hm
            · exact (k_M_step_160 h).trans hm
          · skip
            rcases ite_or h with ⟨c86_4, h⟩ | ⟨c86_4, h⟩
            · rcases ite_or h with ⟨c172, h⟩ | ⟨c172, h⟩
              · exact (k_M_step_180 h).trans hm
              · exact (k_M_step_180 h).trans hm
            · skip
              rcases ite_or h with ⟨c86_5, h⟩ | ⟨c86_5, h⟩
              · obtain ⟨r7, er7, h⟩ := ob_some h
                obtain ⟨r9, S8, eS8, h⟩ := ob2_some h
                have hm := (show S8.2.2.2 = S6.2.2.2 from k_M_must eS8).trans hm
                rcases ite_or h with ⟨c195, h⟩ | ⟨c195, h⟩
                · have h := Option.some.inj h
                  subst h
                  exact hm
                · obtain ⟨S10, eS10, h⟩ := ob_some h
                  have hm := (show S10.2.2.2 = S8.2.2.2 from k_M_setName eS10).trans hm
                  obtain ⟨g11, h⟩ := gd_some h
                  rcases ite_or h with ⟨c211, h⟩ | ⟨c211, h⟩
                  · exact (k_M_step_225 h).trans hm
                  · obtain ⟨g12, h⟩ := gd_some h
                    rcases ite_or h with ⟨c222, h⟩ | ⟨c222, h⟩
                    · exact (k_M_step_225 h).trans hm
                    · obtain ⟨S13, eS13, h⟩ := ob_some h
                      have hm := (show S13.2.2.2 = S10.2.2.2 from k_M_bind eS13).trans hm
                      have h := Option.some.inj h
                      subst h
                      exact hm
              · skip
                rcases ite_or h with ⟨c86_6, h⟩ | ⟨c86_6, h⟩
                · obtain ⟨r14, er14, h⟩ := ob_some h
                  rcases ite_or h with ⟨c245, h⟩ | ⟨c245, h⟩
                  · exact (k_M_step_266 h).trans hm
                  · obtain ⟨g15, h⟩ := gd_some h
                    rcases ite_or h with ⟨c259, h⟩ | ⟨c259, h⟩
                    · exact (k_M_step_266 h).trans hm
                    · exact (k_M_step_267 h).trans hm
                · skip
                  rcases ite_or h with ⟨c86_7, h⟩ | ⟨c86_7, h⟩
                  · rcases ite_or h with ⟨c305, h⟩ | ⟨c305, h⟩
                    · obtain ⟨S16, eS16, h⟩ := lt_some h
                      have hm := (show S16.2.2.2 = S6.2.2.2 from by rw [eS16]; rfl).trans hm
                      have h := Option.some.inj h
                      subst h
                      exact hm
                    · obtain ⟨S17, eS17, h⟩ := ob_some h
                      have hm := (show S17.2.2.2 = S6.2.2.2 from k_M_push eS17).trans hm
                      obtain ⟨S18, eS18, h⟩ := ob_some h
                      have hm := (show S18.2.2.2 = S17.2.2.2 from k_M_begin eS18).trans hm
                      have h := Option.some.inj h
                      subst h
                      exact hm
                  · skip
                    obtain ⟨r19, er19, h⟩ := ob_some h
                    obtain ⟨r21, S20, eS20, h⟩ := ob2_some h
                    have hm := (show S20.2.2.2 = S6.2.2.2 from k_M_must eS20).trans hm
                    rcases ite_or h with ⟨c345, h⟩ | ⟨c345, h⟩
                    · have h := Option.some.inj h
                      subst h
                      exact hm
                    · obtain ⟨S22, eS22, h⟩ := ob_some h
                      have hm := (show S22.2.2.2 = S20.2.2.2 from k_M_setName eS22).trans hm
                      have h := Option.some.inj h
                      subst h
                      exact hm
    · have h := Option.some.inj h
      subst h
      exact hm
set_option maxHeartbeats 4000000 in
set_option maxRecDepth 100000 in
theorem k_M_expression_19B {n : Nat} {kc : HS → Option HS} {S' : HS} (hkm : ∀ (S : HS), kc S = some S' → S'.2.2.2 = S.2.2.2) {S : HS} (h : f_M_expression_b19B n kc S = some S') : S'.2.2.2 = S.2.2.2 := by
  unfold f_M_expression_b19B at h
  have hm : S.2.2.2 = S.2.2.2 := rfl
  rcases ite_or h with ⟨c23, h⟩ | ⟨c23, h⟩
  · have h := Option.some.inj h
    subst h
    exact hm
  · rcases ite_or h with ⟨c30, h⟩ | ⟨c30, h⟩
    · obtain ⟨g3, h⟩ := gd_some h
      rcases ite_or h with ⟨c46, h⟩ | ⟨c46, h⟩
      · obtain ⟨S5, eS5, h⟩ := lt_some h
        have hm := (show S5.2.2.2 = S.2.2.2 from by rw [eS5]; rfl).trans hm
        obtain ⟨S6, eS6, h⟩ := lt_some h
        have hm := (show S6.2.2.2 = S5.2.2.2 from by rw [eS6]; rfl).trans hm
        exact (hkm _ h).trans hm
      · obtain ⟨S4, eS4, h⟩ := ob_some h
        have hm := (show S4.2.2.2 = S.2.2.2 from k_M_step eS4).trans hm
        exact (hkm _ h).trans hm
    · have h := Option.some.inj h
      subst h
      exact hm
set_option maxHeartbeats 4000000 in
set_option maxRecDepth 100000 in
theorem k_M_expression_19 {n : Nat} (k : Nat) {S' : HS} : ∀ {S : HS}, f_M_expression_b19 n k S = some S' → S'.2.2.2 = S.2.2.2 := by
  induction k with
  | zero => intro S h; cases h
  | succ k ih => intro S h; exact k_M_expression_19B (n := n) (kc := f_M_expression_b19 n k) (fun S h => ih h) h
set_option maxHeartbeats 4000000 in
set_option maxRecDepth 100000 in
theorem k_M_expression_15 {n : Nat} {S' : HS} {y0 : Int32} {S : HS} (h : f_M_expression_b15 n y0 S = some S') : S'.2.2.2 = S.2.2.2 := by
  unfold f_M_expression_b15 at h
  have hm : S.2.2.2 = S.2.2.2 := rfl
  obtain ⟨S2, eS2, h⟩ := ob_some h
  have hm := (show S2.2.2.2 = S.2.2.2 from k_M_push eS2).trans hm
  exact (k_M_expression_19 n h).trans hm
set_option maxHeartbeats 4000000 in
set_option maxRecDepth 100000 in
theorem k_M_expression {n : Nat} {x1 : Int32} {S : HS} {S' : HS} (h : f_M_expression n x1 S = some S') : S'.2.2.2 = S.2.2.2 := by
  unfold f_M_expression at h
  have hm : S.2.2.2 = S.2.2.2 := rfl
  obtain ⟨S1, eS1, h⟩ := lt_some h
  have hm := (show S1.2.2.2 = S.2.2.2 from by rw [eS1]; rfl).trans hm
  rcases ite_or h with ⟨c7, h⟩ | ⟨c7, h⟩
  · exact (k_M_expression_15 h).trans hm
  · exact (k_M_expression_15 h).trans hm
set_option maxHeartbeats 4000000 in
set_option maxRecDepth 100000 in
theorem k_M_readParameter_67 {n : Nat} {kc : Int32 → Int32 → Int32 → HS → Option HS} {S' : HS} (hkm : ∀ (x1 : Int32) (x2 : Int32) (x3 : Int32) (S : HS), kc x1 x2 x3 S = some S' → S'.2.2.2 = S.2.2.2) {x1 : Int32} {x3 : Int32} {y0 : Int32} {S : HS} (h : f_M_readParameter_b67 n kc x1 x3 y0 S = some S') : S'.2.2.2 = S.2.2.2 := by
  unfold f_M_readParameter_b67 at h
  have hm : S.2.2.2 = S.2.2.2 := rfl
  obtain ⟨v10, ev10, h⟩ := lt_some h
  obtain ⟨v11, ev11, h⟩ := lt_some h
  exact (hkm _ _ _ _ h).trans hm
set_option maxHeartbeats 4000000 in
set_option maxRecDepth 100000 in
theorem k_M_readParameter_62 {n : Nat} {kc : Int32 → Int32 → Int32 → HS → Option HS} {S' : HS} (hkm : ∀ (x1 : Int32) (x2 : Int32) (x3 : Int32) (S : HS), kc x1 x2 x3 S = some S' → S'.2.2.2 = S.2.2.2) {x1 : Int32} {x3 : Int32} {S : HS} (h : f_M_readParameter_b62 n kc x1 x3 S = some S') : S'.2.2.2 = S.2.2.2 := by
  unfold f_M_readParameter_b62 at h
  have hm : S.2.2.2 = S.2.2.2 := rfl
  exact (k_M_readParameter_67 hkm h).trans hm
set_option maxHeartbeats 4000000 in
set_option maxRecDepth 100000 in
theorem k_M_readParameter_227 {n : Nat} {S' : HS} {y0 : Int32} {S : HS} (h : f_M_readParameter_b227 n y0 S = some S') : S'.2.2.2 = S.2.2.2 := by
  unfold f_M_readParameter_b227 at h
  have hm : S.2.2.2 = S.2.2.2 := rfl
  obtain ⟨r30, S29, eS29, h⟩ := ob2_some h
  have hm := (show S29.2.2.2 = S.2.2.2 from k_M_must eS29).trans hm
  have h := Option.some.inj h
  subst h
  exact hm
set_option maxHeartbeats 4000000 in
set_option maxRecDepth 100000 in
theorem k_M_readParameter_191 {n : Nat} {S' : HS} {x1 : Int32} {y0 : Int32} {y1 : Int32} {S : HS} (h : f_M_readParameter_b191 n x1 y0 y1 S = some S') : S'.2.2.2 = S.2.2.2 := by
  unfold f_M_readParameter_b191 at h
  have hm : S.2.2.2 = S.2.2.2 := rfl
  obtain ⟨g23, h⟩ := gd_some h
  obtain ⟨S24, eS24, h⟩ := lt_some h
  have hm := (show S24.2.2.2 = S.2.2.2 from by rw [eS24]; rfl).trans hm
  obtain ⟨g25, h⟩ := gd_some h
  obtain ⟨g26, h⟩ := gd_some h
  obtain ⟨S27, eS27, h⟩ := lt_some h
  have hm := (show S27.2.2.2 = S24.2.2.2 from by rw [eS27]; rfl).trans hm
  rcases ite_or h with ⟨c206, h⟩ | ⟨c206, h⟩
  · obtain ⟨S28, eS28, h⟩ := ob_some h
    have hm := (show S28.2.2.2 = S27.2.2.2 from k_M_next eS28).trans hm
    rcases ite_or h with ⟨c219, h⟩ | ⟨c219, h⟩
    · exact (k_M_readParameter_227 h).trans hm
    · exact (k_M_readParameter_227 h).trans hm
  · have h := Option.some.inj h
    subst h
    exact hm
set_option maxHeartbeats 4000000 in
set_option maxRecDepth 100000 in
theorem k_M_readParameter_154 {n : Nat} {S' : HS} {x1 : Int32} {y0 : Int32} {S : HS} (h : f_M_readParameter_b154 n x1 y0 S = some S') : S'.2.2.2 = S.2.2.2 := by
  unfold f_M_readParameter_b154 at h
  have hm : S.2.2.2 = S.2.2.2 := rfl
  obtain ⟨r20, S19, eS19, h⟩ := ob2_some h
  have hm := (show S19.2.2.2 = S.2.2.2 from k_M_must eS19).trans hm
  obtain ⟨g21, h⟩ := gd_some h
  rcases ite_or h with ⟨c180, h⟩ | ⟨c180, h⟩
  · obtain ⟨r22, er22, h⟩ := ob_some h
    exact (k_M_readParameter_191 h).trans hm
  · exact (k_M_readParameter_191 h).trans hm
set_option maxHeartbeats 4000000 in
set_option maxRecDepth 100000 in
theorem k_M_readParameter_149 {n : Nat} {S' : HS} {x1 : Int32} {S : HS} (h : f_M_readParameter_b149 n x1 S = some S') : S'.2.2.2 = S.2.2.2 := by
  unfold f_M_readParameter_b149 at h
  have hm : S.2.2.2 = S.2.2.2 := rfl
  exact (k_M_readParameter_154 h).trans hm
set_option maxHeartbeats 4000000 in
set_option maxRecDepth 100000 in
theorem k_M_readParameter_98 {n : Nat} {S' : HS} {x1 : Int32} {y0 : Int32} {S : HS} (h : f_M_readParameter_b98 n x1 y0 S = some S') : S'.2.2.2 = S.2.2.2 := by
  unfold f_M_readParameter_b98 at h
  have hm : S.2.2.2 = S.2.2.2 := rfl
  obtain ⟨r13, S12, eS12, h⟩ := ob2_some h
  have hm := (show S12.2.2.2 = S.2.2.2 from k_M_must eS12).trans hm
  rcases ite_or h with ⟨c106, h⟩ | ⟨c106, h⟩
  · obtain ⟨g14, h⟩ := gd_some h
    obtain ⟨g15, h⟩ := gd_some h
    obtain ⟨S16, eS16, h⟩ := lt_some h
    have hm := (show S16.2.2.2 = S12.2.2.2 from by rw [eS16]; rfl).trans hm
    obtain ⟨S17, eS17, h⟩ := ob_some h
    have hm := (show S17.2.2.2 = S16.2.2.2 from k_M_next eS17).trans hm
    rcases ite_or h with ⟨c139, h⟩ | ⟨c139, h⟩
    · exact (k_M_readParameter_149 h).trans hm
    · obtain ⟨r18, er18, h⟩ := ob_some h
      rcases ite_or h with ⟨c146, h⟩ | ⟨c146, h⟩
      · exact (k_M_readParameter_154 h).trans hm
      · exact (k_M_readParameter_149 h).trans hm
  · have h := Option.some.inj h
    subst h
    exact hm
set_option maxHeartbeats 4000000 in
set_option maxRecDepth 100000 in
theorem k_M_readParameter_93 {n : Nat} {S' : HS} {x1 : Int32} {S : HS} (h : f_M_readParameter_b93 n x1 S = some S') : S'.2.2.2 = S.2.2.2 := by
  unfold f_M_readParameter_b93 at h
  have hm : S.2.2.2 = S.2.2.2 := rfl
  exact (k_M_readParameter_98 h).trans hm
set_option maxHeartbeats 4000000 in
set_option maxRecDepth 100000 in
theorem k_M_readParameter_97 {n : Nat} {S' : HS} {x1 : Int32} {S : HS} (h : f_M_readParameter_b97 n x1 S = some S') : S'.2.2.2 = S.2.2.2 := by
  unfold f_M_readParameter_b97 at h
  have hm : S.2.2.2 = S.2.2.2 := rfl
  exact (k_M_readParameter_98 h).trans hm
set_option maxHeartbeats 4000000 in
set_option maxRecDepth 100000 in
theorem k_M_readParameter_29B {n : Nat} {kc : Int32 → Int32 → Int32 → HS → Option HS} {S' : HS} (hkm : ∀ (x1 : Int32) (x2 : Int32) (x3 : Int32) (S : HS), kc x1 x2 x3 S = some S' → S'.2.2.2 = S.2.2.2) {x1 : Int32} {x2 : Int32} {x3 : Int32} {S : HS} (h : f_M_readParameter_b29B n kc x1 x2 x3 S = some S') : S'.2.2.2 = S.2.2.2 := by
  unfold f_M_readParameter_b29B at h
  have hm : S.2.2.2 = S.2.2.2 := rfl
  obtain ⟨g7, h⟩ := gd_some h
  rcases ite_or h with ⟨c36, h⟩ | ⟨c36, h⟩
  · rcases ite_or h with ⟨c79, h⟩ | ⟨c79, h⟩
    · exact (k_M_readParameter_93 h).trans hm
    · obtain ⟨r8, er8, h⟩ := ob_some h
      rcases ite_or h with ⟨c86, h⟩ | ⟨c86, h⟩
      · exact (k_M_readParameter_97 h).trans hm
      · rcases ite_or h with ⟨c90, h⟩ | ⟨c90, h⟩
        · exact (k_M_readParameter_93 h).trans hm
        · exact (k_M_readParameter_97 h).trans hm
  · rcases ite_or h with ⟨c40, h⟩ | ⟨c40, h⟩
    · obtain ⟨g9, h⟩ := gd_some h
      rcases ite_or h with ⟨c59, h⟩ | ⟨c59, h⟩
      · exact (k_M_readParameter_62 hkm h).trans hm
      · exact (k_M_readParameter_67 hkm h).trans hm
    · exact (k_M_readParameter_62 hkm h).trans hm
set_option maxHeartbeats 4000000 in
set_option maxRecDepth 100000 in
theorem k_M_readParameter_29 {n : Nat} (k : Nat) {S' : HS} : ∀ {x1 : Int32} {x2 : Int32} {x3 : Int32} {S : HS}, f_M_readParameter_b29 n k x1 x2 x3 S = some S' → S'.2.2.2 = S.2.2.2 := by
  induction k with
  | zero => intro x1 x2 x3 S h; cases h
  | succ k ih => intro x1 x2 x3 S h; exact k_M_readParameter_29B (n := n) (kc := f_M_readParameter_b29 n k) (fun x1 x2 x3 S h => ih h) h
set_option maxHeartbeats 4000000 in
set_option maxRecDepth 100000 in
theorem k_M_readParameter_17 {n : Nat} {S' : HS} {x1 : Int32} {y0 : Int32} {S : HS} (h : f_M_readParameter_b17 n x1 y0 S = some S') : S'.2.2.2 = S.2.2.2 := by
  unfold f_M_readParameter_b17 at h
  have hm : S.2.2.2 = S.2.2.2 := rfl
  obtain ⟨r3, S2, eS2, h⟩ := ob2_some h
  have hm := (show S2.2.2.2 = S.2.2.2 from k_M_must eS2).trans hm
  obtain ⟨S4, eS4, h⟩ := ob_some h
  have hm := (show S4.2.2.2 = S2.2.2.2 from k_M_next eS4).trans hm
  obtain ⟨v5, ev5, h⟩ := lt_some h
  obtain ⟨v6, ev6, h⟩ := lt_some h
  exact (k_M_readParameter_29 n h).trans hm
set_option maxHeartbeats 4000000 in
set_option maxRecDepth 100000 in
theorem k_M_readParameter {n : Nat} {x1 : Int32} {S : HS} {S' : HS} (h : f_M_readParameter n x1 S = some S') : S'.2.2.2 = S.2.2.2 := by
  unfold f_M_readParameter at h
  have hm : S.2.2.2 = S.2.2.2 := rfl
  obtain ⟨g1, h⟩ := gd_some h
  rcases ite_or h with ⟨c9, h⟩ | ⟨c9, h⟩
  · exact (k_M_readParameter_17 h).trans hm
  · exact (k_M_readParameter_17 h).trans hm
set_option maxHeartbeats 4000000 in
set_option maxRecDepth 100000 in
theorem k_M_readDefinition_148 {n : Nat} {kc : Int32 → Int32 → Int32 → HS → Option HS} {S' : HS} (hkm : ∀ (x1 : Int32) (x2 : Int32) (x3 : Int32) (S : HS), kc x1 x2 x3 S = some S' → S'.2.2.2 = S.2.2.2) {x1 : Int32} {x3 : Int32} {y0 : Int32} {S : HS} (h : f_M_readDefinition_b148 n kc x1 x3 y0 S = some S') : S'.2.2.2 = S.2.2.2 := by
  unfold f_M_readDefinition_b148 at h
  have hm : S.2.2.2 = S.2.2.2 := rfl
  obtain ⟨v17, ev17, h⟩ := lt_some h
  obtain ⟨v18, ev18, h⟩ := lt_some h
  exact (hkm _ _ _ _ h).trans hm
set_option maxHeartbeats 4000000 in
set_option maxRecDepth 100000 in
theorem k_M_readDefinition_143 {n : Nat} {kc : Int32 → Int32 → Int32 → HS → Option HS} {S' : HS} (hkm : ∀ (x1 : Int32) (x2 : Int32) (x3 : Int32) (S : HS), kc x1 x2 x3 S = some S' → S'.2.2.2 = S.2.2.2) {x1 : Int32} {x3 : Int32} {S : HS} (h : f_M_readDefinition_b143 n kc x1 x3 S = some S') : S'.2.2.2 = S.2.2.2 := by
  unfold f_M_readDefinition_b143 at h
  have hm : S.2.2.2 = S.2.2.2 := rfl
  exact (k_M_readDefinition_148 hkm h).trans hm
set_option maxHeartbeats 4000000 in
set_option maxRecDepth 100000 in
theorem k_M_readDefinition_292 {n : Nat} {kc : Int32 → Int32 → HS → Option HS} {S' : HS} (hkm : ∀ (x1 : Int32) (x3 : Int32) (S : HS), kc x1 x3 S = some S' → S'.2.2.2 = S.2.2.2) {x1 : Int32} {y0 : Int32} {S : HS} (h : f_M_readDefinition_b292 n kc x1 y0 S = some S') : S'.2.2.2 = S.2.2.2 := by
  unfold f_M_readDefinition_b292 at h
  have hm : S.2.2.2 = S.2.2.2 := rfl
  obtain ⟨v43, ev43, h⟩ := lt_some h
  rcases ite_or h with ⟨c294, h⟩ | ⟨c294, h⟩
  · exact (hkm _ _ _ h).trans hm
  · rcases ite_or h with ⟨c301, h⟩ | ⟨c301, h⟩
    · obtain ⟨S44, eS44, h⟩ := ob_some h
      have hm := (show S44.2.2.2 = S.2.2.2 from k_M_readParameter eS44).trans hm
      exact (hkm _ _ _ h).trans hm
    · exact (hkm _ _ _ h).trans hm
set_option maxHeartbeats 4000000 in
set_option maxRecDepth 100000 in
theorem k_M_readDefinition_276 {n : Nat} {kc : Int32 → Int32 → HS → Option HS} {S' : HS} (hkm : ∀ (x1 : Int32) (x3 : Int32) (S : HS), kc x1 x3 S = some S' → S'.2.2.2 = S.2.2.2) {x1 : Int32} {y0 : Int32} {S : HS} (h : f_M_readDefinition_b276 n kc x1 y0 S = some S') : S'.2.2.2 = S.2.2.2 := by
  unfold f_M_readDefinition_b276 at h
  have hm : S.2.2.2 = S.2.2.2 := rfl
  obtain ⟨r37, S36, eS36, h⟩ := ob2_some h
  have hm := (show S36.2.2.2 = S.2.2.2 from k_M_must eS36).trans hm
  rcases ite_or h with ⟨c284, h⟩ | ⟨c284, h⟩
  · exact (k_M_readDefinition_292 hkm h).trans hm
  · exact (k_M_readDefinition_292 hkm h).trans hm
set_option maxHeartbeats 4000000 in
set_option maxRecDepth 100000 in
theorem k_M_readDefinition_271 {n : Nat} {kc : Int32 → Int32 → HS → Option HS} {S' : HS} (hkm : ∀ (x1 : Int32) (x3 : Int32) (S : HS), kc x1 x3 S = some S' → S'.2.2.2 = S.2.2.2) {x1 : Int32} {S : HS} (h : f_M_readDefinition_b271 n kc x1 S = some S') : S'.2.2.2 = S.2.2.2 := by
  unfold f_M_readDefinition_b271 at h
  have hm : S.2.2.2 = S.2.2.2 := rfl
  exact (k_M_readDefinition_276 hkm h).trans hm
set_option maxHeartbeats 4000000 in
set_option maxRecDepth 100000 in
theorem k_M_readDefinition_459 {n : Nat} {S' : HS} {S : HS} (h : f_M_readDefinition_b459 n S = some S') : S'.2.2.2 = S.2.2.2 := by
  unfold f_M_readDefinition_b459 at h
  have hm : S.2.2.2 = S.2.2.2 := rfl
  obtain ⟨S50, eS50, h⟩ := lt_some h
  have hm := (show S50.2.2.2 = S.2.2.2 from by rw [eS50]; rfl).trans hm
  have h := Option.some.inj h
  subst h
  exact hm
set_option maxHeartbeats 4000000 in
set_option maxRecDepth 100000 in
theorem k_M_readDefinition_455 {n : Nat} {S' : HS} {y0 : Int32} {S : HS} (h : f_M_readDefinition_b455 n y0 S = some S') : S'.2.2.2 = S.2.2.2 := by
  unfold f_M_readDefinition_b455 at h
  have hm : S.2.2.2 = S.2.2.2 := rfl
  obtain ⟨r52, S51, eS51, h⟩ := ob2_some h
  have hm := (show S51.2.2.2 = S.2.2.2 from k_M_must eS51).trans hm
  exact (k_M_readDefinition_459 h).trans hm
set_option maxHeartbeats 4000000 in
set_option maxRecDepth 100000 in
theorem k_M_readDefinition_430 {n : Nat} {S' : HS} {S : HS} (h : f_M_readDefinition_b430 n S = some S') : S'.2.2.2 = S.2.2.2 := by
  unfold f_M_readDefinition_b430 at h
  have hm : S.2.2.2 = S.2.2.2 := rfl
  rcases ite_or h with ⟨c434, h⟩ | ⟨c434, h⟩
  · obtain ⟨S45, eS45, h⟩ := ob_some h
    have hm := (show S45.2.2.2 = S.2.2.2 from k_M_next eS45).trans hm
    rcases ite_or h with ⟨c447, h⟩ | ⟨c447, h⟩
    · exact (k_M_readDefinition_455 h).trans hm
    · exact (k_M_readDefinition_455 h).trans hm
  · exact (k_M_readDefinition_459 h).trans hm
set_option maxHeartbeats 4000000 in
set_option maxRecDepth 100000 in
theorem k_M_readDefinition_427 {n : Nat} {S' : HS} {y0 : Int32} {S : HS} (h : f_M_readDefinition_b427 n y0 S = some S') : S'.2.2.2 = S.2.2.2 := by
  unfold f_M_readDefinition_b427 at h
  have hm : S.2.2.2 = S.2.2.2 := rfl
  obtain ⟨S46, eS46, h⟩ := ob_some h
  have hm := (show S46.2.2.2 = S.2.2.2 from k_M_expression eS46).trans hm
  exact (k_M_readDefinition_430 h).trans hm
set_option maxHeartbeats 4000000 in
set_option maxRecDepth 100000 in
theorem k_M_readDefinition_385 {n : Nat} {S' : HS} {x1 : Int32} {S : HS} (h : f_M_readDefinition_b385 n x1 S = some S') : S'.2.2.2 = S.2.2.2 := by
  unfold f_M_readDefinition_b385 at h
  have hm : S.2.2.2 = S.2.2.2 := rfl
  obtain ⟨g38, h⟩ := gd_some h
  obtain ⟨S39, eS39, h⟩ := lt_some h
  have hm := (show S39.2.2.2 = S.2.2.2 from by rw [eS39]; rfl).trans hm
  obtain ⟨g40, h⟩ := gd_some h
  obtain ⟨S41, eS41, h⟩ := lt_some h
  have hm := (show S41.2.2.2 = S39.2.2.2 from by rw [eS41]; rfl).trans hm
  rcases ite_or h with ⟨c409, h⟩ | ⟨c409, h⟩
  · obtain ⟨g42, h⟩ := gd_some h
    rcases ite_or h with ⟨c419, h⟩ | ⟨c419, h⟩
    · exact (k_M_readDefinition_427 h).trans hm
    · exact (k_M_readDefinition_427 h).trans hm
  · exact (k_M_readDefinition_430 h).trans hm
set_option maxHeartbeats 4000000 in
set_option maxRecDepth 100000 in
theorem k_M_readDefinition_384 {n : Nat} {S' : HS} {x1 : Int32} {y0 : Int32} {y1 : Int32} {S : HS} (h : f_M_readDefinition_b384 n x1 y0 y1 S = some S') : S'.2.2.2 = S.2.2.2 := by
  unfold f_M_readDefinition_b384 at h
  have hm : S.2.2.2 = S.2.2.2 := rfl
  obtain ⟨g53, h⟩ := gd_some h
  obtain ⟨S54, eS54, h⟩ := lt_some h
  have hm := (show S54.2.2.2 = S.2.2.2 from by rw [eS54]; rfl).trans hm
  exact (k_M_readDefinition_385 h).trans hm
set_option maxHeartbeats 4000000 in
set_option maxRecDepth 100000 in
theorem k_M_readDefinition_360 {n : Nat} {S' : HS} {x1 : Int32} {y0 : Int32} {S : HS} (h : f_M_readDefinition_b360 n x1 y0 S = some S') : S'.2.2.2 = S.2.2.2 := by
  unfold f_M_readDefinition_b360 at h
  have hm : S.2.2.2 = S.2.2.2 := rfl
  obtain ⟨r48, S47, eS47, h⟩ := ob2_some h
  have hm := (show S47.2.2.2 = S.2.2.2 from k_M_must eS47).trans hm
  rcases ite_or h with ⟨c373, h⟩ | ⟨c373, h⟩
  · obtain ⟨r49, er49, h⟩ := ob_some h
    exact (k_M_readDefinition_384 h).trans hm
  · exact (k_M_readDefinition_384 h).trans hm
set_option maxHeartbeats 4000000 in
set_option maxRecDepth 100000 in
theorem k_M_readDefinition_355 {n : Nat} {S' : HS} {x1 : Int32} {S : HS} (h : f_M_readDefinition_b355 n x1 S = some S') : S'.2.2.2 = S.2.2.2 := by
  unfold f_M_readDefinition_b355 at h
  have hm : S.2.2.2 = S.2.2.2 := rfl
  exact (k_M_readDefinition_360 h).trans hm
set_option maxHeartbeats 4000000 in
set_option maxRecDepth 100000 in
theorem k_M_readDefinition_359 {n : Nat} {S' : HS} {x1 : Int32} {S : HS} (h : f_M_readDefinition_b359 n x1 S = some S') : S'.2.2.2 = S.2.2.2 := by
  unfold f_M_readDefinition_b359 at h
  have hm : S.2.2.2 = S.2.2.2 := rfl
  exact (k_M_readDefinition_360 h).trans hm
set_option maxHeartbeats 4000000 in
set_option maxRecDepth 100000 in
theorem k_M_readDefinition_312 {n : Nat} {S' : HS} {x1 : Int32} {S : HS} (h : f_M_readDefinition_b312 n x1 S = some S') : S'.2.2.2 = S.2.2.2 := by
  unfold f_M_readDefinition_b312 at h
  have hm : S.2.2.2 = S.2.2.2 := rfl
  rcases ite_or h with ⟨c316, h⟩ | ⟨c316, h⟩
  · obtain ⟨S32, eS32, h⟩ := ob_some h
    have hm := (show S32.2.2.2 = S.2.2.2 from k_M_next eS32).trans hm
    rcases ite_or h with ⟨c328, h⟩ | ⟨c328, h⟩
    · exact (k_M_readDefinition_355 h).trans hm
    · obtain ⟨r33, er33, h⟩ := ob_some h
      rcases ite_or h with ⟨c335, h⟩ | ⟨c335, h⟩
      · exact (k_M_readDefinition_359 h).trans hm
      · obtain ⟨g34, h⟩ := gd_some h
        rcases ite_or h with ⟨c344, h⟩ | ⟨c344, h⟩
        · exact (k_M_readDefinition_355 h).trans hm
        · obtain ⟨r35, er35, h⟩ := ob_some h
          rcases ite_or h with ⟨c352, h⟩ | ⟨c352, h⟩
          · exact (k_M_readDefinition_359 h).trans hm
          · exact (k_M_readDefinition_355 h).trans hm
  · exact (k_M_readDefinition_385 h).trans hm
set_option maxHeartbeats 4000000 in
set_option maxRecDepth 100000 in
theorem k_M_readDefinition_240B {n : Nat} {kc : Int32 → Int32 → HS → Option HS} {S' : HS} (hkm : ∀ (x1 : Int32) (x3 : Int32) (S : HS), kc x1 x3 S = some S' → S'.2.2.2 = S.2.2.2) {x1 : Int32} {x3 : Int32} {S : HS} (h : f_M_readDefinition_b240B n kc x1 x3 S = some S') : S'.2.2.2 = S.2.2.2 := by
  unfold f_M_readDefinition_b240B at h
  have hm : S.2.2.2 = S.2.2.2 := rfl
  rcases ite_or h with ⟨c241, h⟩ | ⟨c241, h⟩
  · exact (k_M_readDefinition_312 h).trans hm
  · rcases ite_or h with ⟨c248, h⟩ | ⟨c248, h⟩
    · obtain ⟨S31, eS31, h⟩ := ob_some h
      have hm := (show S31.2.2.2 = S.2.2.2 from k_M_next eS31).trans hm
      rcases ite_or h with ⟨c260, h⟩ | ⟨c260, h⟩
      · exact (k_M_readDefinition_271 hkm h).trans hm
      · rcases ite_or h with ⟨c268, h⟩ | ⟨c268, h⟩
        · exact (k_M_readDefinition_271 hkm h).trans hm
        · exact (k_M_readDefinition_276 hkm h).trans hm
    · exact (k_M_readDefinition_312 h).trans hm
set_option maxHeartbeats 4000000 in
set_option maxRecDepth 100000 in
theorem k_M_readDefinition_240 {n : Nat} (k : Nat) {S' : HS} : ∀ {x1 : Int32} {x3 : Int32} {S : HS}, f_M_readDefinition_b240 n k x1 x3 S = some S' → S'.2.2.2 = S.2.2.2 := by
  induction k with
  | zero => intro x1 x3 S h; cases h
  | succ k ih => intro x1 x3 S h; exact k_M_readDefinition_240B (n := n) (kc := f_M_readDefinition_b240 n k) (fun x1 x3 S h => ih h) h
set_option maxHeartbeats 4000000 in
set_option maxRecDepth 100000 in
theorem k_M_readDefinition_238 {n : Nat} {S' : HS} {x1 : Int32} {S : HS} (h : f_M_readDefinition_b238 n x1 S = some S') : S'.2.2.2 = S.2.2.2 := by
  unfold f_M_readDefinition_b238 at h
  have hm : S.2.2.2 = S.2.2.2 := rfl
  obtain ⟨v28, ev28, h⟩ := lt_some h
  exact (k_M_readDefinition_240 n h).trans hm
set_option maxHeartbeats 4000000 in
set_option maxRecDepth 100000 in
theorem k_M_readDefinition_234 {n : Nat} {S' : HS} {x1 : Int32} {y0 : Int32} {S : HS} (h : f_M_readDefinition_b234 n x1 y0 S = some S') : S'.2.2.2 = S.2.2.2 := by
  unfold f_M_readDefinition_b234 at h
  have hm : S.2.2.2 = S.2.2.2 := rfl
  obtain ⟨r30, S29, eS29, h⟩ := ob2_some h
  have hm := (show S29.2.2.2 = S.2.2.2 from k_M_must eS29).trans hm
  exact (k_M_readDefinition_238 h).trans hm
set_option maxHeartbeats 4000000 in
set_option maxRecDepth 100000 in
theorem k_M_readDefinition_179 {n : Nat} {S' : HS} {x1 : Int32} {y0 : Int32} {S : HS} (h : f_M_readDefinition_b179 n x1 y0 S = some S') : S'.2.2.2 = S.2.2.2 := by
  unfold f_M_readDefinition_b179 at h
  have hm : S.2.2.2 = S.2.2.2 := rfl
  obtain ⟨r20, S19, eS19, h⟩ := ob2_some h
  have hm := (show S19.2.2.2 = S.2.2.2 from k_M_must eS19).trans hm
  obtain ⟨g21, h⟩ := gd_some h
  obtain ⟨S22, eS22, h⟩ := lt_some h
  have hm := (show S22.2.2.2 = S19.2.2.2 from by rw [eS22]; rfl).trans hm
  obtain ⟨g23, h⟩ := gd_some h
  obtain ⟨S24, eS24, h⟩ := lt_some h
  have hm := (show S24.2.2.2 = S22.2.2.2 from by rw [eS24]; rfl).trans hm
  obtain ⟨g25, h⟩ := gd_some h
  obtain ⟨S26, eS26, h⟩ := lt_some h
  have hm := (show S26.2.2.2 = S24.2.2.2 from by rw [eS26]; rfl).trans hm
  rcases ite_or h with ⟨c214, h⟩ | ⟨c214, h⟩
  · obtain ⟨S27, eS27, h⟩ := ob_some h
    have hm := (show S27.2.2.2 = S26.2.2.2 from k_M_next eS27).trans hm
    rcases ite_or h with ⟨c226, h⟩ | ⟨c226, h⟩
    · exact (k_M_readDefinition_234 h).trans hm
    · exact (k_M_readDefinition_234 h).trans hm
  · exact (k_M_readDefinition_238 h).trans hm
set_option maxHeartbeats 4000000 in
set_option maxRecDepth 100000 in
theorem k_M_readDefinition_174 {n : Nat} {S' : HS} {x1 : Int32} {S : HS} (h : f_M_readDefinition_b174 n x1 S = some S') : S'.2.2.2 = S.2.2.2 := by
  unfold f_M_readDefinition_b174 at h
  have hm : S.2.2.2 = S.2.2.2 := rfl
  exact (k_M_readDefinition_179 h).trans hm
set_option maxHeartbeats 4000000 in
set_option maxRecDepth 100000 in
theorem k_M_readDefinition_178 {n : Nat} {S' : HS} {x1 : Int32} {S : HS} (h : f_M_readDefinition_b178 n x1 S = some S') : S'.2.2.2 = S.2.2.2 := by
  unfold f_M_readDefinition_b178 at h
  have hm : S.2.2.2 = S.2.2.2 := rfl
  exact (k_M_readDefinition_179 h).trans hm
set_option maxHeartbeats 4000000 in
set_option maxRecDepth 100000 in
theorem k_M_readDefinition_120B {n : Nat} {kc : Int32 → Int32 → Int32 → HS → Option HS} {S' : HS} (hkm : ∀ (x1 : Int32) (x2 : Int32) (x3 : Int32) (S : HS), kc x1 x2 x3 S = some S' → S'.2.2.2 = S.2.2.2) {x1 : Int32} {x2 : Int32} {x3 : Int32} {S : HS} (h : f_M_readDefinition_b120B n kc x1 x2 x3 S = some S') : S'.2.2.2 = S.2.2.2 := by
  unfold f_M_readDefinition_b120B at h
  have hm : S.2.2.2 = S.2.2.2 := rfl
  rcases ite_or h with ⟨c122, h⟩ | ⟨c122, h⟩
  · rcases ite_or h with ⟨c160, h⟩ | ⟨c160, h⟩
    · exact (k_M_readDefinition_174 h).trans hm
    · obtain ⟨r15, er15, h⟩ := ob_some h
      rcases ite_or h with ⟨c167, h⟩ | ⟨c167, h⟩
      · exact (k_M_readDefinition_178 h).trans hm
      · rcases ite_or h with ⟨c171, h⟩ | ⟨c171, h⟩
        · exact (k_M_readDefinition_174 h).trans hm
        · exact (k_M_readDefinition_178 h).trans hm
  · rcases ite_or h with ⟨c126, h⟩ | ⟨c126, h⟩
    · obtain ⟨g16, h⟩ := gd_some h
      rcases ite_or h with ⟨c140, h⟩ | ⟨c140, h⟩
      · exact (k_M_readDefinition_143 hkm h).trans hm
      · exact (k_M_readDefinition_148 hkm h).trans hm
    · exact (k_M_readDefinition_143 hkm h).trans hm
set_option maxHeartbeats 4000000 in
set_option maxRecDepth 100000 in
theorem k_M_readDefinition_120 {n : Nat} (k : Nat) {S' : HS} : ∀ {x1 : Int32} {x2 : Int32} {x3 : Int32} {S : HS}, f_M_readDefinition_b120 n k x1 x2 x3 S = some S' → S'.2.2.2 = S.2.2.2 := by
  induction k with
  | zero => intro x1 x2 x3 S h; cases h
  | succ k ih => intro x1 x2 x3 S h; exact k_M_readDefinition_120B (n := n) (kc := f_M_readDefinition_b120 n k) (fun x1 x2 x3 S h => ih h) h
set_option maxHeartbeats 4000000 in
set_option maxRecDepth 100000 in
theorem k_M_readDefinition_116 {n : Nat} {S' : HS} {x1 : Int32} {S : HS} (h : f_M_readDefinition_b116 n x1 S = some S') : S'.2.2.2 = S.2.2.2 := by
  unfold f_M_readDefinition_b116 at h
  have hm : S.2.2.2 = S.2.2.2 := rfl
  obtain ⟨v13, ev13, h⟩ := lt_some h
  obtain ⟨v14, ev14, h⟩ := lt_some h
  exact (k_M_readDefinition_120 n h).trans hm
set_option maxHeartbeats 4000000 in
set_option maxRecDepth 100000 in
theorem k_M_readDefinition_104 {n : Nat} {S' : HS} {x1 : Int32} {y0 : Int32} {y1 : Int32} {S : HS} (h : f_M_readDefinition_b104 n x1 y0 y1 S = some S') : S'.2.2.2 = S.2.2.2 := by
  unfold f_M_readDefinition_b104 at h
  have hm : S.2.2.2 = S.2.2.2 := rfl
  obtain ⟨g10, h⟩ := gd_some h
  obtain ⟨S11, eS11, h⟩ := lt_some h
  have hm := (show S11.2.2.2 = S.2.2.2 from by rw [eS11]; rfl).trans hm
  rcases ite_or h with ⟨c109, h⟩ | ⟨c109, h⟩
  · obtain ⟨S12, eS12, h⟩ := ob_some h
    have hm := (show S12.2.2.2 = S11.2.2.2 from k_M_next eS12).trans hm
    exact (k_M_readDefinition_116 h).trans hm
  · exact (k_M_readDefinition_116 h).trans hm
set_option maxHeartbeats 4000000 in
set_option maxRecDepth 100000 in
theorem k_M_readDefinition_103 {n : Nat} {S' : HS} {x1 : Int32} {y0 : Int32} {S : HS} (h : f_M_readDefinition_b103 n x1 y0 S = some S') : S'.2.2.2 = S.2.2.2 := by
  unfold f_M_readDefinition_b103 at h
  have hm : S.2.2.2 = S.2.2.2 := rfl
  exact (k_M_readDefinition_104 h).trans hm
set_option maxHeartbeats 4000000 in
set_option maxRecDepth 100000 in
theorem k_M_readDefinition_74 {n : Nat} {S' : HS} {x1 : Int32} {y0 : Int32} {S : HS} (h : f_M_readDefinition_b74 n x1 y0 S = some S') : S'.2.2.2 = S.2.2.2 := by
  unfold f_M_readDefinition_b74 at h
  have hm : S.2.2.2 = S.2.2.2 := rfl
  obtain ⟨r8, S7, eS7, h⟩ := ob2_some h
  have hm := (show S7.2.2.2 = S.2.2.2 from k_M_must eS7).trans hm
  rcases ite_or h with ⟨c87, h⟩ | ⟨c87, h⟩
  · obtain ⟨r9, er9, h⟩ := ob_some h
    rcases ite_or h with ⟨c96, h⟩ | ⟨c96, h⟩
    · exact (k_M_readDefinition_103 h).trans hm
    · exact (k_M_readDefinition_104 h).trans hm
  · exact (k_M_readDefinition_103 h).trans hm
set_option maxHeartbeats 4000000 in
set_option maxRecDepth 100000 in
theorem k_M_readDefinition_69 {n : Nat} {S' : HS} {x1 : Int32} {S : HS} (h : f_M_readDefinition_b69 n x1 S = some S') : S'.2.2.2 = S.2.2.2 := by
  unfold f_M_readDefinition_b69 at h
  have hm : S.2.2.2 = S.2.2.2 := rfl
  exact (k_M_readDefinition_74 h).trans hm
set_option maxHeartbeats 4000000 in
set_option maxRecDepth 100000 in
theorem k_M_readDefinition_22 {n : Nat} {S' : HS} {y0 : Int32} {S : HS} (h : f_M_readDefinition_b22 n y0 S = some S') : S'.2.2.2 = S.2.2.2 := by
  unfold f_M_readDefinition_b22 at h
  have hm : S.2.2.2 = S.2.2.2 := rfl
  obtain ⟨r2, S1, eS1, h⟩ := ob2_some h
  have hm := (show S1.2.2.2 = S.2.2.2 from k_M_must eS1).trans hm
  rcases ite_or h with ⟨c30, h⟩ | ⟨c30, h⟩
  · obtain ⟨v3, ev3, h⟩ := lt_some h
    obtain ⟨S4, eS4, h⟩ := ob_some h
    have hm := (show S4.2.2.2 = S1.2.2.2 from k_M_next eS4).trans hm
    rcases ite_or h with ⟨c48, h⟩ | ⟨c48, h⟩
    · exact (k_M_readDefinition_69 h).trans hm
    · obtain ⟨r5, er5, h⟩ := ob_some h
      rcases ite_or h with ⟨c57, h⟩ | ⟨c57, h⟩
      · obtain ⟨r6, er6, h⟩ := ob_some h
        rcases ite_or h with ⟨c66, h⟩ | ⟨c66, h⟩
        · exact (k_M_readDefinition_74 h).trans hm
        · exact (k_M_readDefinition_69 h).trans hm
      · exact (k_M_readDefinition_69 h).trans hm
  · have h := Option.some.inj h
    subst h
    exact hm
set_option maxHeartbeats 4000000 in
set_option maxRecDepth 100000 in
theorem k_M_readDefinition_21 {n : Nat} {S' : HS} {S : HS} (h : f_M_readDefinition_b21 n S = some S') : S'.2.2.2 = S.2.2.2 := by
  unfold f_M_readDefinition_b21 at h
  have hm : S.2.2.2 = S.2.2.2 := rfl
  exact (k_M_readDefinition_22 h).trans hm
set_option maxHeartbeats 4000000 in
set_option maxRecDepth 100000 in
theorem k_M_readDefinition {n : Nat} {S : HS} {S' : HS} (h : f_M_readDefinition n S = some S') : S'.2.2.2 = S.2.2.2 := by
  unfold f_M_readDefinition at h
  have hm : S.2.2.2 = S.2.2.2 := rfl
  rcases ite_or h with ⟨c5, h⟩ | ⟨c5, h⟩
  · rcases ite_or h with ⟨c14, h⟩ | ⟨c14, h⟩
    · exact (k_M_readDefinition_21 h).trans hm
    · exact (k_M_readDefinition_22 h).trans hm
  · exact (k_M_readDefinition_21 h).trans hm
set_option maxHeartbeats 4000000 in
set_option maxRecDepth 100000 in
theorem k_M_read_67 {n : Nat} {r : Int32} {S' : HS} {S : HS} (h : f_M_read_b67 n S = some (r, S')) : S'.2.2.2 = S.2.2.2 := by
  unfold f_M_read_b67 at h
  have hm : S.2.2.2 = S.2.2.2 := rfl
  rcases ite_or h with ⟨c71, h⟩ | ⟨c71, h⟩
  · obtain ⟨hr1, hr2⟩ := Prod.mk.inj (Option.some.inj h)
    subst hr1
    subst hr2
    exact hm
  · obtain ⟨S10, eS10, h⟩ := lt_some h
    have hm := (show S10.2.2.2 = S.2.2.2 from by rw [eS10]; rfl).trans hm
    obtain ⟨S11, eS11, h⟩ := lt_some h
    have hm := (show S11.2.2.2 = S10.2.2.2 from by rw [eS11]; rfl).trans hm
    obtain ⟨hr1, hr2⟩ := Prod.mk.inj (Option.some.inj h)
    subst hr1
    subst hr2
    exact hm
set_option maxHeartbeats 4000000 in
set_option maxRecDepth 100000 in
theorem k_M_read_34B {n : Nat} {kc : HS → Option (Int32 × HS)} {r : Int32} {S' : HS} (hkm : ∀ (S : HS), kc S = some (r, S') → S'.2.2.2 = S.2.2.2) {S : HS} (h : f_M_read_b34B n kc S = some (r, S')) : S'.2.2.2 = S.2.2.2 := by
  unfold f_M_read_b34B at h
  have hm : S.2.2.2 = S.2.2.2 := rfl
  rcases ite_or h with ⟨c38, h⟩ | ⟨c38, h⟩
  · rcases ite_or h with ⟨c46, h⟩ | ⟨c46, h⟩
    · exact (k_M_read_67 h).trans hm
    · obtain ⟨S8, eS8, h⟩ := ob_some h
      have hm := (show S8.2.2.2 = S.2.2.2 from k_M_readDefinition eS8).trans hm
      rcases ite_or h with ⟨c57, h⟩ | ⟨c57, h⟩
      · obtain ⟨S9, eS9, h⟩ := ob_some h
        have hm := (show S9.2.2.2 = S8.2.2.2 from k_M_next eS9).trans hm
        exact (hkm _ h).trans hm
      · exact (hkm _ h).trans hm
  · exact (k_M_read_67 h).trans hm
set_option maxHeartbeats 4000000 in
set_option maxRecDepth 100000 in
theorem k_M_read_34 {n : Nat} (k : Nat) {r : Int32} {S' : HS} : ∀ {S : HS}, f_M_read_b34 n k S = some (r, S') → S'.2.2.2 = S.2.2.2 := by
  induction k with
  | zero => intro S h; cases h
  | succ k ih => intro S h; exact k_M_read_34B (n := n) (kc := f_M_read_b34 n k) (fun S h => ih h) h
set_option maxHeartbeats 4000000 in
set_option maxRecDepth 100000 in
theorem k_M_read {n : Nat} {S : HS} {r : Int32} {S' : HS} (h : f_M_read n S = some (r, S')) : S'.2.2.2 = S.2.2.2 := by
  unfold f_M_read at h
  have hm : S.2.2.2 = S.2.2.2 := rfl
  obtain ⟨S1, eS1, h⟩ := lt_some h
  have hm := (show S1.2.2.2 = S.2.2.2 from by rw [eS1]; rfl).trans hm
  obtain ⟨S2, eS2, h⟩ := lt_some h
  have hm := (show S2.2.2.2 = S1.2.2.2 from by rw [eS2]; rfl).trans hm
  obtain ⟨S3, eS3, h⟩ := lt_some h
  have hm := (show S3.2.2.2 = S2.2.2.2 from by rw [eS3]; rfl).trans hm
  obtain ⟨S4, eS4, h⟩ := lt_some h
  have hm := (show S4.2.2.2 = S3.2.2.2 from by rw [eS4]; rfl).trans hm
  obtain ⟨S5, eS5, h⟩ := lt_some h
  have hm := (show S5.2.2.2 = S4.2.2.2 from by rw [eS5]; rfl).trans hm
  obtain ⟨S6, eS6, h⟩ := lt_some h
  have hm := (show S6.2.2.2 = S5.2.2.2 from by rw [eS6]; rfl).trans hm
  obtain ⟨S7, eS7, h⟩ := ob_some h
  have hm := (show S7.2.2.2 = S6.2.2.2 from k_M_next eS7).trans hm
  exact (k_M_read_34 n h).trans hm
