section
/-- both objects hold the same five longs, in another order: nothing else is needed (no sign, no bound) -/
def i_Rel (_ : Nat) (u : SX) (v : SY) : Prop := ∃ s h g us d : Int64, u = (s, h, g, us, d) ∧ v = (us, d, s, h, g)
theorem qg_rel (k : Nat) (s h g us d : Int64) : i_Rel k (s, h, g, us, d) (us, d, s, h, g) := ⟨s, h, g, us, d, rfl, rfl⟩
theorem i_up {k : Nat} {u : SX} {v : SY} (h : i_Rel k u v) : i_Rel (k + 5) u v := h
theorem i_vc0 (k0 : Int64) (k1 : Int64) (k2 : Int64) : wpX_init (fun u => wpY_init (fun v => i_Rel 6 u v) k0 k1 k2) k0 k1 k2 := qg_rel 6 k0 k1 k2 0 0
/-- the reference's arming: the deadline is now + grace, or 1 where that is 0 -/
theorem qg_armZ {post : Int64 → SY → Prop} {us d s h g p : Int64} (e : p + g = 0) (H : post 1 (us, 1, s, h, g)) : wpY_arm post (us, d, s, h, g) p := by
  intro x ex
  exact br_t (ex.trans e) H
theorem qg_armN {post : Int64 → SY → Prop} {us d s h g p : Int64} (e : ¬ p + g = 0) (H : post (p + g) (us, p + g, s, h, g)) : wpY_arm post (us, d, s, h, g) p := by
  intro x ex
  subst ex
  exact br_f e H
theorem i_vc_charge {k : Nat} {u : SX} {v : SY} (I : i_Rel k u v) (hk : k + 5 ≤ 2566) (a0 : Int64) (a1 : Int64) : wpX_charge (fun r u' => wpY_charge (fun r' v' => r' = r ∧ i_Rel (k + 5) u' v') v a0 a1) u a0 a1 := by
  obtain ⟨s, h, g, us, d, rfl, rfl⟩ := I
  by_cases h0 : 0 ≤ a0
  · refine br_t h0 fun x ex => ?_
    by_cases h1 : x < 0
    · exact br_t h1 (br_t h0 fun y ey => by
        cases ey.trans ex.symm
        exact br_t h1 (And.intro rfl (qg_rel _ _ _ _ _ _)))
    · by_cases h2 : x ≤ h
      · by_cases h3 : x ≤ s
        · exact br_f h1 (br_t h2 (br_t h3 (br_t h0 fun y ey => by
            cases ey.trans ex.symm
            exact br_f h1 (br_t h2 (br_t h3 (And.intro rfl (qg_rel _ _ _ _ _ _)))))))
        · by_cases h4 : d = 0
          · refine br_f h1 (br_t h2 (br_f h3 (br_t h4 fun z ez => ?_)))
            by_cases h5 : a1 + g = 0
            · exact br_t (ez.trans h5) (br_t h0 fun y ey => by
                cases ey.trans ex.symm
                exact br_f h1 (br_t h2 (br_f h3 (br_t h4 (qg_armZ h5 (And.intro rfl (qg_rel _ _ _ _ _ _)))))))
            · subst ez
              exact br_f h5 (br_t h0 fun y ey => by
                cases ey.trans ex.symm
                exact br_f h1 (br_t h2 (br_f h3 (br_t h4 (qg_armN h5 (And.intro rfl (qg_rel _ _ _ _ _ _)))))))
          · by_cases h5 : a1 ≤ d
            · exact br_f h1 (br_t h2 (br_f h3 (br_f h4 (br_t h5 (br_t h0 fun y ey => by
                cases ey.trans ex.symm
                exact br_f h1 (br_t h2 (br_f h3 (br_f h4 (br_t h5 (And.intro rfl (qg_rel _ _ _ _ _ _)))))))))))
            · exact br_f h1 (br_t h2 (br_f h3 (br_f h4 (br_f h5 (br_t h0 fun y ey => by
                cases ey.trans ex.symm
                exact br_f h1 (br_t h2 (br_f h3 (br_f h4 (br_f h5 (And.intro rfl (qg_rel _ _ _ _ _ _)))))))))))
      · exact br_f h1 (br_f h2 (br_t h0 fun y ey => by
          cases ey.trans ex.symm
          exact br_f h1 (br_f h2 (And.intro rfl (qg_rel _ _ _ _ _ _)))))
  · exact br_f h0 (br_f h0 (And.intro rfl (qg_rel _ _ _ _ _ _)))
/-- behind the choice of what is left (w): the component's join at 37 against the reference's at 24 -/
theorem qg_left (k : Nat) (s h g us d w c a0 : Int64) (e : us - c = w)
    (H : ∀ post : Int64 → SY → Prop, wY_release_24 post c us d s h g → wpY_release post (us, d, s, h, g) a0) :
    wX_release_37 (fun r u' => wpY_release (fun r' v' => r' = r ∧ i_Rel (k + 5) u' v') (us, d, s, h, g) a0) s h g w d := by
  by_cases h1 : s < w
  · refine br_t h1 (H _ ?_)
    intro y ey z ez
    cases ey.trans e
    cases ez.trans e
    exact br_t h1 (And.intro rfl (qg_rel _ _ _ _ _ _))
  · refine br_f h1 (H _ ?_)
    intro y ey z ez
    cases ey.trans e
    cases ez.trans e
    exact br_f h1 (And.intro rfl (qg_rel _ _ _ _ _ _))
theorem i_vc_release {k : Nat} {u : SX} {v : SY} (I : i_Rel k u v) (hk : k + 5 ≤ 2566) (a0 : Int64) : wpX_release (fun r u' => wpY_release (fun r' v' => r' = r ∧ i_Rel (k + 5) u' v') v a0) u a0 := by
  obtain ⟨s, h, g, us, d, rfl, rfl⟩ := I
  by_cases h0 : 0 ≤ a0
  · by_cases h1 : a0 ≤ us
    · refine br_t h0 (br_t h1 fun w ew => ?_)
      exact qg_left k s h g us d w a0 a0 ew.symm fun post hp => br_t h0 (br_t h1 hp)
    · refine br_t h0 (br_f h1 ?_)
      exact qg_left k s h g us d 0 us a0 (Int64.sub_self us) fun post hp => br_t h0 (br_f h1 hp)
  · exact br_f h0 (br_f h0 (And.intro rfl (qg_rel _ _ _ _ _ _)))
theorem i_vc_state {k : Nat} {u : SX} {v : SY} (I : i_Rel k u v) (hk : k + 5 ≤ 2566) (a0 : Int64) : wpX_state (fun r => wpY_state (fun r' => r' = r ∧ i_Rel (k + 5) u v) v a0) u a0 := by
  obtain ⟨s, h, g, us, d, rfl, rfl⟩ := I
  have K : i_Rel (k + 5) (s, h, g, us, d) (us, d, s, h, g) := qg_rel _ _ _ _ _ _
  by_cases h0 : s < us
  · by_cases h1 : d = 0
    · exact br_t h0 (br_t h1 (br_t h0 (br_t h1 ⟨rfl, K⟩)))
    · by_cases h2 : a0 ≤ d
      · exact br_t h0 (br_f h1 (br_t h2 (br_t h0 (br_f h1 (br_t h2 ⟨rfl, K⟩)))))
      · exact br_t h0 (br_f h1 (br_f h2 (br_t h0 (br_f h1 (br_f h2 ⟨rfl, K⟩)))))
  · exact br_f h0 (br_f h0 ⟨rfl, K⟩)
theorem i_vc_deadline {k : Nat} {u : SX} {v : SY} (I : i_Rel k u v) (hk : k + 5 ≤ 2566) : wpX_deadline (fun r => wpY_deadline (fun r' => r' = r ∧ i_Rel (k + 5) u v) v) u := by
  obtain ⟨s, h, g, us, d, rfl, rfl⟩ := I
  exact And.intro rfl (qg_rel _ _ _ _ _ _)
end
