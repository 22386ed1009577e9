/-! ===== the numbers behind a cause ===== -/
def csW (w : mW) (k m n : Int) : mW := mset (mset (mset w 37 0 k) 38 0 m) 39 0 n
theorem xL_cs (w : mW) (k m n : Int) : xL (csW w k m n) = xL w := xL_eq (fun _ => rfl) (fun _ => rfl) (fun _ => rfl) (fun _ => rfl)
theorem xM.cs {θ : zTh} {σ : xA} {w : mW} {M M' : zMap} {k m n : Int} (hX : xM θ σ w (xL w) M) (hf : zFx (σ 0 0) M M') (hO : M' (σ 0 0) = some (.inr (0, [.ref (σ 1 0), .int (iI (w 0 0)), .ref (σ 2 0), .int (iI (w 11 0)), .int (iI (w 12 0)), .ref (σ 3 0), .int (iI (w 27 0)), .ref (σ 4 0), .ref (σ 10 (w 34 0)), .ref (σ 5 0), .ref (σ 6 0), .int (iI k), .int (iI m), .int (iI n)]))) : xM θ σ (csW w k m n) (xL (csW w k m n)) M' := by
  rw [xL_cs]
  refine ⟨fun a i b j h1 h2 => hX.1 a i b j h1 h2, fun a i h => ?_⟩
  by_cases h0 : a = 0 ∧ i = 0
  · obtain ⟨rfl, rfl⟩ := h0
    exact ⟨_, hO, rfl⟩
  · have hl : xLv w (xL w) a i := h
    obtain ⟨e, g1, g2⟩ := hX.2 a i hl
    refine ⟨e, hf _ _ g1 (fun h9 => h0 (hX.1 a i 0 0 hl (Or.inl ⟨by decide, rfl⟩) h9)), ?_⟩
    rcases xLv_k hl with rfl | rfl | rfl | rfl | rfl | rfl | rfl | rfl | rfl | rfl | rfl | rfl | rfl | rfl | rfl | rfl | rfl | rfl | rfl | rfl <;> first | exact g2 | (exfalso; omega) | (exfalso; unfold xLv at hl; omega)

