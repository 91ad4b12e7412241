/-! ===== what else holds: team ===== -/
set_option maxRecDepth 100000
section
variable {G : zGl}
theorem IE.team (hi : IG G) (h : IE G) (a b c s p : Int32) : IE (oTeam G a b c s p).2 := by
  unfold oTeam
  split
  · split
    · exact h.tr
    · next c1 =>
      split
      · exact h.tr
      · split
        · exact h.tr
        · next c3 =>
          split
          · exact h.tr
          · split
            · exact h.tr
            · split
              · exact h.tr
              · split
                · exact h.tr
                · next c7 =>
                  obtain ⟨a1, a2⟩ := tin_sm (a := 4) (b := 16) c3 (by omega) (by omega)
                  refine IE.tr (G := sN G _ _) ⟨⟨fun j hj => ?_, fun _ => ?_⟩, h.2.1, h.2.2⟩
                  · have e1 : vTeam (gV G) 0 1 = Int32.ofNat (nn (gV G 0 1) + 1) := zup_q _ _ _ _
                    have hj' : j < nn (vTeam (gV G) 0 1) := hj
                    rw [e1, nn_of (by omega)] at hj'
                    show 0 < nn (upT (gT G) (nn (gV G 0 1)) (tini a b c s p) j 0 0)
                    by_cases e : j = nn (gV G 0 1)
                    · subst e
                      rw [upT_q]
                      show 0 < nn a
                      omega
                    · rw [upT_k e]
                      exact h.1.1 j (by omega)
                  · show 0 < nn (vTeam (gV G) 0 0)
                    rw [show vTeam (gV G) 0 0 = gV G 0 0 by simp [vTeam, zup]]
                    omega
  · exact h.tr
theorem IR_ini {a b c s p : Int32} : IR (tini a b c s p) := fun j hj => by
  have : ib (-1) := by unfold ib; decide
  exact ⟨this, this⟩
theorem IL.team (h : IL G) (a b c s p : Int32) : IL (oTeam G a b c s p).2 := by
  unfold oTeam
  split
  · split
    · exact h
    · split
      · exact h
      · split
        · exact h
        · split
          · exact h
          · split
            · exact h
            · split
              · exact h
              · split
                · exact h
                · next c7 =>
                  refine IL.tr (G := sN G _ _) ⟨fun j hj => ?_, h.2.1, h.2.2⟩
                  have e1 : vTeam (gV G) 0 1 = Int32.ofNat (nn (gV G 0 1) + 1) := zup_q _ _ _ _
                  have hj' : j < nn (vTeam (gV G) 0 1) := hj
                  rw [e1, nn_of (by omega)] at hj'
                  show IR (upT (gT G) (nn (gV G 0 1)) (tini a b c s p) j)
                  by_cases e : j = nn (gV G 0 1)
                  · subst e
                    rw [upT_q]
                    exact IR_ini
                  · rw [upT_k e]
                    exact h.1 j (by omega)
  · exact h
end
