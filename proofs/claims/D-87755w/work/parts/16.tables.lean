/-! the classes' tables: printed by gen_tables.py -/
set_option maxRecDepth 100000
theorem jg_X0_273_62 : jx_FG "LoopLane" (273, 62, 0, 0, 2, 0, 0, 0) := ⟨by decide, by decide, fun k hk => by
  have hk : k = 62 := hk
  subst hk
  exact ⟨by decide, (RX2, TX2, 1), rfl, by decide, Or.inr ⟨_, List.mem_filter.mpr ⟨q124, rfl⟩⟩, rfl, by decide, (by first | exact trivial | rfl | exact ⟨_, rfl, Or.inl ⟨_, rfl⟩⟩ | exact ⟨_, rfl, Or.inr ⟨_, rfl⟩⟩)⟩⟩
theorem jg_X0_267_61 : jx_FG "LoopLane" (267, 61, 0, 2, 6, 31, 8, 1) := ⟨by decide, by decide, fun k hk => by
  have hk : k = 61 := hk
  subst hk
  exact ⟨by decide, (RX1, TX1, 1), rfl, by decide, Or.inr ⟨_, List.mem_filter.mpr ⟨q130, rfl⟩⟩, rfl, by decide, (by first | exact trivial | rfl | exact ⟨_, rfl, Or.inl ⟨_, rfl⟩⟩ | exact ⟨_, rfl, Or.inr ⟨_, rfl⟩⟩)⟩⟩
theorem jg_X0_213_63 : jx_FG "LoopLane" (213, 63, 0, 0, 0, 0, 0, 0) := ⟨by decide, by decide, fun k hk => by
  have hk : k = 63 := hk
  subst hk
  exact ⟨by decide, (RX3, TX3, 8), rfl, by decide, Or.inr ⟨_, List.mem_filter.mpr ⟨q157, rfl⟩⟩, rfl, by decide, (by first | exact trivial | rfl | exact ⟨_, rfl, Or.inl ⟨_, rfl⟩⟩ | exact ⟨_, rfl, Or.inr ⟨_, rfl⟩⟩)⟩⟩
theorem jg_X0_216_63 : jx_FG "LoopLane" (216, 63, 1, 0, 0, 0, 0, 0) := ⟨by decide, by decide, fun k hk => by
  have hk : k = 63 := hk
  subst hk
  exact ⟨by decide, (RX3, TX3, 8), rfl, by decide, Or.inr ⟨_, List.mem_filter.mpr ⟨q159, rfl⟩⟩, rfl, by decide, (by first | exact trivial | rfl | exact ⟨_, rfl, Or.inl ⟨_, rfl⟩⟩ | exact ⟨_, rfl, Or.inr ⟨_, rfl⟩⟩)⟩⟩
theorem jg_X0_219_63 : jx_FG "LoopLane" (219, 63, 2, 0, 0, 0, 0, 0) := ⟨by decide, by decide, fun k hk => by
  have hk : k = 63 := hk
  subst hk
  exact ⟨by decide, (RX3, TX3, 8), rfl, by decide, Or.inr ⟨_, List.mem_filter.mpr ⟨q161, rfl⟩⟩, rfl, by decide, (by first | exact trivial | rfl | exact ⟨_, rfl, Or.inl ⟨_, rfl⟩⟩ | exact ⟨_, rfl, Or.inr ⟨_, rfl⟩⟩)⟩⟩
theorem jg_X0_201_63 : jx_FG "LoopLane" (201, 63, 3, 0, 0, 0, 0, 0) := ⟨by decide, by decide, fun k hk => by
  have hk : k = 63 := hk
  subst hk
  exact ⟨by decide, (RX3, TX3, 8), rfl, by decide, Or.inr ⟨_, List.mem_filter.mpr ⟨q163, rfl⟩⟩, rfl, by decide, (by first | exact trivial | rfl | exact ⟨_, rfl, Or.inl ⟨_, rfl⟩⟩ | exact ⟨_, rfl, Or.inr ⟨_, rfl⟩⟩)⟩⟩
theorem jg_X0_204_63 : jx_FG "LoopLane" (204, 63, 4, 0, 0, 0, 0, 0) := ⟨by decide, by decide, fun k hk => by
  have hk : k = 63 := hk
  subst hk
  exact ⟨by decide, (RX3, TX3, 8), rfl, by decide, Or.inr ⟨_, List.mem_filter.mpr ⟨q165, rfl⟩⟩, rfl, by decide, (by first | exact trivial | rfl | exact ⟨_, rfl, Or.inl ⟨_, rfl⟩⟩ | exact ⟨_, rfl, Or.inr ⟨_, rfl⟩⟩)⟩⟩
theorem jg_X0_231_63 : jx_FG "LoopLane" (231, 63, 5, 1, 0, 0, 0, 0) := ⟨by decide, by decide, fun k hk => by
  have hk : k = 63 := hk
  subst hk
  exact ⟨by decide, (RX3, TX3, 8), rfl, by decide, Or.inr ⟨_, List.mem_filter.mpr ⟨q167, rfl⟩⟩, rfl, by decide, (by first | exact trivial | rfl | exact ⟨_, rfl, Or.inl ⟨_, rfl⟩⟩ | exact ⟨_, rfl, Or.inr ⟨_, rfl⟩⟩)⟩⟩
theorem jg_X0_222_63 : jx_FG "LoopLane" (222, 63, 6, 0, 0, 0, 0, 0) := ⟨by decide, by decide, fun k hk => by
  have hk : k = 63 := hk
  subst hk
  exact ⟨by decide, (RX3, TX3, 8), rfl, by decide, Or.inr ⟨_, List.mem_filter.mpr ⟨q169, rfl⟩⟩, rfl, by decide, (by first | exact trivial | rfl | exact ⟨_, rfl, Or.inl ⟨_, rfl⟩⟩ | exact ⟨_, rfl, Or.inr ⟨_, rfl⟩⟩)⟩⟩
theorem jg_X0_257_63 : jx_FG "LoopLane" (257, 63, 7, 2, 6, 11, 16, 1) := ⟨by decide, by decide, fun k hk => by
  have hk : k = 63 := hk
  subst hk
  exact ⟨by decide, (RX3, TX3, 8), rfl, by decide, Or.inr ⟨_, List.mem_filter.mpr ⟨q171, rfl⟩⟩, rfl, by decide, (by first | exact trivial | rfl | exact ⟨_, rfl, Or.inl ⟨_, rfl⟩⟩ | exact ⟨_, rfl, Or.inr ⟨_, rfl⟩⟩)⟩⟩
theorem jg_X0_417_64 : jx_FG "LoopLane" (417, 64, 6, 2, 0, 0, 0, 0) := ⟨by decide, by decide, fun k hk => by
  have hk : k = 64 := hk
  subst hk
  exact ⟨by decide, (RX4, TX4, 7), rfl, by decide, Or.inr ⟨_, List.mem_filter.mpr ⟨q259, rfl⟩⟩, rfl, by decide, (by first | exact trivial | rfl | exact ⟨_, rfl, Or.inl ⟨_, rfl⟩⟩ | exact ⟨_, rfl, Or.inr ⟨_, rfl⟩⟩)⟩⟩
theorem jg_X0_392_66 : jx_FG "LoopLane" (392, 66, 7, 0, 1, 0, 0, 0) := ⟨by decide, by decide, fun k hk => by
  have hk : k = 66 := hk
  subst hk
  exact ⟨by decide, (RX6, TX6, 8), rfl, by decide, Or.inr ⟨_, List.mem_filter.mpr ⟨q284, rfl⟩⟩, rfl, by decide, (by first | exact trivial | rfl | exact ⟨_, rfl, Or.inl ⟨_, rfl⟩⟩ | exact ⟨_, rfl, Or.inr ⟨_, rfl⟩⟩)⟩⟩
theorem jg_X0_59_80 : jx_FG "LoopLane" (59, 80, 0, 0, 0, 0, 0, 0) := ⟨by decide, by decide, fun k hk => by
  have hk : 66 ≤ k ∧ k ≤ 72 := hk
  rcases (show k = 66 ∨ k = 67 ∨ k = 68 ∨ k = 69 ∨ k = 70 ∨ k = 71 ∨ k = 72 by omega) with rfl | rfl | rfl | rfl | rfl | rfl | rfl
  · exact ⟨by decide, (RX6, TX6, 8), rfl, by decide, Or.inl q286, rfl, by decide, (by first | exact trivial | rfl | exact ⟨_, rfl, Or.inl ⟨_, rfl⟩⟩ | exact ⟨_, rfl, Or.inr ⟨_, rfl⟩⟩)⟩
  · exact ⟨by decide, (RX7, TX7, 7), rfl, by decide, Or.inl q286, rfl, by decide, (by first | exact trivial | rfl | exact ⟨_, rfl, Or.inl ⟨_, rfl⟩⟩ | exact ⟨_, rfl, Or.inr ⟨_, rfl⟩⟩)⟩
  · exact ⟨by decide, (RX8, TX8, 7), rfl, by decide, Or.inl q286, rfl, by decide, (by first | exact trivial | rfl | exact ⟨_, rfl, Or.inl ⟨_, rfl⟩⟩ | exact ⟨_, rfl, Or.inr ⟨_, rfl⟩⟩)⟩
  · exact ⟨by decide, (RX9, TX9, 7), rfl, by decide, Or.inl q286, rfl, by decide, (by first | exact trivial | rfl | exact ⟨_, rfl, Or.inl ⟨_, rfl⟩⟩ | exact ⟨_, rfl, Or.inr ⟨_, rfl⟩⟩)⟩
  · exact ⟨by decide, (RX10, TX10, 8), rfl, by decide, Or.inl q286, rfl, by decide, (by first | exact trivial | rfl | exact ⟨_, rfl, Or.inl ⟨_, rfl⟩⟩ | exact ⟨_, rfl, Or.inr ⟨_, rfl⟩⟩)⟩
  · exact ⟨by decide, (RX11, TX11, 8), rfl, by decide, Or.inl q286, rfl, by decide, (by first | exact trivial | rfl | exact ⟨_, rfl, Or.inl ⟨_, rfl⟩⟩ | exact ⟨_, rfl, Or.inr ⟨_, rfl⟩⟩)⟩
  · exact ⟨by decide, (RX12, TX12, 7), rfl, by decide, Or.inl q286, rfl, by decide, (by first | exact trivial | rfl | exact ⟨_, rfl, Or.inl ⟨_, rfl⟩⟩ | exact ⟨_, rfl, Or.inr ⟨_, rfl⟩⟩)⟩⟩
theorem jg_X0_109_80 : jx_FG "LoopLane" (109, 80, 1, 0, 0, 0, 0, 0) := ⟨by decide, by decide, fun k hk => by
  have hk : 66 ≤ k ∧ k ≤ 72 := hk
  rcases (show k = 66 ∨ k = 67 ∨ k = 68 ∨ k = 69 ∨ k = 70 ∨ k = 71 ∨ k = 72 by omega) with rfl | rfl | rfl | rfl | rfl | rfl | rfl
  · exact ⟨by decide, (RX6, TX6, 8), rfl, by decide, Or.inl q288, rfl, by decide, (by first | exact trivial | rfl | exact ⟨_, rfl, Or.inl ⟨_, rfl⟩⟩ | exact ⟨_, rfl, Or.inr ⟨_, rfl⟩⟩)⟩
  · exact ⟨by decide, (RX7, TX7, 7), rfl, by decide, Or.inl q288, rfl, by decide, (by first | exact trivial | rfl | exact ⟨_, rfl, Or.inl ⟨_, rfl⟩⟩ | exact ⟨_, rfl, Or.inr ⟨_, rfl⟩⟩)⟩
  · exact ⟨by decide, (RX8, TX8, 7), rfl, by decide, Or.inl q288, rfl, by decide, (by first | exact trivial | rfl | exact ⟨_, rfl, Or.inl ⟨_, rfl⟩⟩ | exact ⟨_, rfl, Or.inr ⟨_, rfl⟩⟩)⟩
  · exact ⟨by decide, (RX9, TX9, 7), rfl, by decide, Or.inl q288, rfl, by decide, (by first | exact trivial | rfl | exact ⟨_, rfl, Or.inl ⟨_, rfl⟩⟩ | exact ⟨_, rfl, Or.inr ⟨_, rfl⟩⟩)⟩
  · exact ⟨by decide, (RX10, TX10, 8), rfl, by decide, Or.inl q288, rfl, by decide, (by first | exact trivial | rfl | exact ⟨_, rfl, Or.inl ⟨_, rfl⟩⟩ | exact ⟨_, rfl, Or.inr ⟨_, rfl⟩⟩)⟩
  · exact ⟨by decide, (RX11, TX11, 8), rfl, by decide, Or.inl q288, rfl, by decide, (by first | exact trivial | rfl | exact ⟨_, rfl, Or.inl ⟨_, rfl⟩⟩ | exact ⟨_, rfl, Or.inr ⟨_, rfl⟩⟩)⟩
  · exact ⟨by decide, (RX12, TX12, 7), rfl, by decide, Or.inl q288, rfl, by decide, (by first | exact trivial | rfl | exact ⟨_, rfl, Or.inl ⟨_, rfl⟩⟩ | exact ⟨_, rfl, Or.inr ⟨_, rfl⟩⟩)⟩⟩
theorem jg_X0_126_80 : jx_FG "LoopLane" (126, 80, 2, 0, 0, 0, 0, 0) := ⟨by decide, by decide, fun k hk => by
  have hk : 66 ≤ k ∧ k ≤ 72 := hk
  rcases (show k = 66 ∨ k = 67 ∨ k = 68 ∨ k = 69 ∨ k = 70 ∨ k = 71 ∨ k = 72 by omega) with rfl | rfl | rfl | rfl | rfl | rfl | rfl
  · exact ⟨by decide, (RX6, TX6, 8), rfl, by decide, Or.inl q290, rfl, by decide, (by first | exact trivial | rfl | exact ⟨_, rfl, Or.inl ⟨_, rfl⟩⟩ | exact ⟨_, rfl, Or.inr ⟨_, rfl⟩⟩)⟩
  · exact ⟨by decide, (RX7, TX7, 7), rfl, by decide, Or.inl q290, rfl, by decide, (by first | exact trivial | rfl | exact ⟨_, rfl, Or.inl ⟨_, rfl⟩⟩ | exact ⟨_, rfl, Or.inr ⟨_, rfl⟩⟩)⟩
  · exact ⟨by decide, (RX8, TX8, 7), rfl, by decide, Or.inl q290, rfl, by decide, (by first | exact trivial | rfl | exact ⟨_, rfl, Or.inl ⟨_, rfl⟩⟩ | exact ⟨_, rfl, Or.inr ⟨_, rfl⟩⟩)⟩
  · exact ⟨by decide, (RX9, TX9, 7), rfl, by decide, Or.inl q290, rfl, by decide, (by first | exact trivial | rfl | exact ⟨_, rfl, Or.inl ⟨_, rfl⟩⟩ | exact ⟨_, rfl, Or.inr ⟨_, rfl⟩⟩)⟩
  · exact ⟨by decide, (RX10, TX10, 8), rfl, by decide, Or.inl q290, rfl, by decide, (by first | exact trivial | rfl | exact ⟨_, rfl, Or.inl ⟨_, rfl⟩⟩ | exact ⟨_, rfl, Or.inr ⟨_, rfl⟩⟩)⟩
  · exact ⟨by decide, (RX11, TX11, 8), rfl, by decide, Or.inl q290, rfl, by decide, (by first | exact trivial | rfl | exact ⟨_, rfl, Or.inl ⟨_, rfl⟩⟩ | exact ⟨_, rfl, Or.inr ⟨_, rfl⟩⟩)⟩
  · exact ⟨by decide, (RX12, TX12, 7), rfl, by decide, Or.inl q290, rfl, by decide, (by first | exact trivial | rfl | exact ⟨_, rfl, Or.inl ⟨_, rfl⟩⟩ | exact ⟨_, rfl, Or.inr ⟨_, rfl⟩⟩)⟩⟩
theorem jg_X0_197_80 : jx_FG "LoopLane" (197, 80, 3, 0, 1, 0, 0, 0) := ⟨by decide, by decide, fun k hk => by
  have hk : 66 ≤ k ∧ k ≤ 72 := hk
  rcases (show k = 66 ∨ k = 67 ∨ k = 68 ∨ k = 69 ∨ k = 70 ∨ k = 71 ∨ k = 72 by omega) with rfl | rfl | rfl | rfl | rfl | rfl | rfl
  · exact ⟨by decide, (RX6, TX6, 8), rfl, by decide, Or.inl q292, rfl, by decide, (by first | exact trivial | rfl | exact ⟨_, rfl, Or.inl ⟨_, rfl⟩⟩ | exact ⟨_, rfl, Or.inr ⟨_, rfl⟩⟩)⟩
  · exact ⟨by decide, (RX7, TX7, 7), rfl, by decide, Or.inl q292, rfl, by decide, (by first | exact trivial | rfl | exact ⟨_, rfl, Or.inl ⟨_, rfl⟩⟩ | exact ⟨_, rfl, Or.inr ⟨_, rfl⟩⟩)⟩
  · exact ⟨by decide, (RX8, TX8, 7), rfl, by decide, Or.inl q292, rfl, by decide, (by first | exact trivial | rfl | exact ⟨_, rfl, Or.inl ⟨_, rfl⟩⟩ | exact ⟨_, rfl, Or.inr ⟨_, rfl⟩⟩)⟩
  · exact ⟨by decide, (RX9, TX9, 7), rfl, by decide, Or.inl q292, rfl, by decide, (by first | exact trivial | rfl | exact ⟨_, rfl, Or.inl ⟨_, rfl⟩⟩ | exact ⟨_, rfl, Or.inr ⟨_, rfl⟩⟩)⟩
  · exact ⟨by decide, (RX10, TX10, 8), rfl, by decide, Or.inl q292, rfl, by decide, (by first | exact trivial | rfl | exact ⟨_, rfl, Or.inl ⟨_, rfl⟩⟩ | exact ⟨_, rfl, Or.inr ⟨_, rfl⟩⟩)⟩
  · exact ⟨by decide, (RX11, TX11, 8), rfl, by decide, Or.inl q292, rfl, by decide, (by first | exact trivial | rfl | exact ⟨_, rfl, Or.inl ⟨_, rfl⟩⟩ | exact ⟨_, rfl, Or.inr ⟨_, rfl⟩⟩)⟩
  · exact ⟨by decide, (RX12, TX12, 7), rfl, by decide, Or.inl q292, rfl, by decide, (by first | exact trivial | rfl | exact ⟨_, rfl, Or.inl ⟨_, rfl⟩⟩ | exact ⟨_, rfl, Or.inr ⟨_, rfl⟩⟩)⟩⟩
theorem jg_X0_55_80 : jx_FG "LoopLane" (55, 80, 4, 0, 0, 0, 0, 0) := ⟨by decide, by decide, fun k hk => by
  have hk : 66 ≤ k ∧ k ≤ 72 := hk
  rcases (show k = 66 ∨ k = 67 ∨ k = 68 ∨ k = 69 ∨ k = 70 ∨ k = 71 ∨ k = 72 by omega) with rfl | rfl | rfl | rfl | rfl | rfl | rfl
  · exact ⟨by decide, (RX6, TX6, 8), rfl, by decide, Or.inl q294, rfl, by decide, (by first | exact trivial | rfl | exact ⟨_, rfl, Or.inl ⟨_, rfl⟩⟩ | exact ⟨_, rfl, Or.inr ⟨_, rfl⟩⟩)⟩
  · exact ⟨by decide, (RX7, TX7, 7), rfl, by decide, Or.inl q294, rfl, by decide, (by first | exact trivial | rfl | exact ⟨_, rfl, Or.inl ⟨_, rfl⟩⟩ | exact ⟨_, rfl, Or.inr ⟨_, rfl⟩⟩)⟩
  · exact ⟨by decide, (RX8, TX8, 7), rfl, by decide, Or.inl q294, rfl, by decide, (by first | exact trivial | rfl | exact ⟨_, rfl, Or.inl ⟨_, rfl⟩⟩ | exact ⟨_, rfl, Or.inr ⟨_, rfl⟩⟩)⟩
  · exact ⟨by decide, (RX9, TX9, 7), rfl, by decide, Or.inl q294, rfl, by decide, (by first | exact trivial | rfl | exact ⟨_, rfl, Or.inl ⟨_, rfl⟩⟩ | exact ⟨_, rfl, Or.inr ⟨_, rfl⟩⟩)⟩
  · exact ⟨by decide, (RX10, TX10, 8), rfl, by decide, Or.inl q294, rfl, by decide, (by first | exact trivial | rfl | exact ⟨_, rfl, Or.inl ⟨_, rfl⟩⟩ | exact ⟨_, rfl, Or.inr ⟨_, rfl⟩⟩)⟩
  · exact ⟨by decide, (RX11, TX11, 8), rfl, by decide, Or.inl q294, rfl, by decide, (by first | exact trivial | rfl | exact ⟨_, rfl, Or.inl ⟨_, rfl⟩⟩ | exact ⟨_, rfl, Or.inr ⟨_, rfl⟩⟩)⟩
  · exact ⟨by decide, (RX12, TX12, 7), rfl, by decide, Or.inl q294, rfl, by decide, (by first | exact trivial | rfl | exact ⟨_, rfl, Or.inl ⟨_, rfl⟩⟩ | exact ⟨_, rfl, Or.inr ⟨_, rfl⟩⟩)⟩⟩
theorem jg_X0_56_80 : jx_FG "LoopLane" (56, 80, 5, 2, 6, 10, 3, 1) := ⟨by decide, by decide, fun k hk => by
  have hk : 66 ≤ k ∧ k ≤ 72 := hk
  rcases (show k = 66 ∨ k = 67 ∨ k = 68 ∨ k = 69 ∨ k = 70 ∨ k = 71 ∨ k = 72 by omega) with rfl | rfl | rfl | rfl | rfl | rfl | rfl
  · exact ⟨by decide, (RX6, TX6, 8), rfl, by decide, Or.inl q296, rfl, by decide, (by first | exact trivial | rfl | exact ⟨_, rfl, Or.inl ⟨_, rfl⟩⟩ | exact ⟨_, rfl, Or.inr ⟨_, rfl⟩⟩)⟩
  · exact ⟨by decide, (RX7, TX7, 7), rfl, by decide, Or.inl q296, rfl, by decide, (by first | exact trivial | rfl | exact ⟨_, rfl, Or.inl ⟨_, rfl⟩⟩ | exact ⟨_, rfl, Or.inr ⟨_, rfl⟩⟩)⟩
  · exact ⟨by decide, (RX8, TX8, 7), rfl, by decide, Or.inl q296, rfl, by decide, (by first | exact trivial | rfl | exact ⟨_, rfl, Or.inl ⟨_, rfl⟩⟩ | exact ⟨_, rfl, Or.inr ⟨_, rfl⟩⟩)⟩
  · exact ⟨by decide, (RX9, TX9, 7), rfl, by decide, Or.inl q296, rfl, by decide, (by first | exact trivial | rfl | exact ⟨_, rfl, Or.inl ⟨_, rfl⟩⟩ | exact ⟨_, rfl, Or.inr ⟨_, rfl⟩⟩)⟩
  · exact ⟨by decide, (RX10, TX10, 8), rfl, by decide, Or.inl q296, rfl, by decide, (by first | exact trivial | rfl | exact ⟨_, rfl, Or.inl ⟨_, rfl⟩⟩ | exact ⟨_, rfl, Or.inr ⟨_, rfl⟩⟩)⟩
  · exact ⟨by decide, (RX11, TX11, 8), rfl, by decide, Or.inl q296, rfl, by decide, (by first | exact trivial | rfl | exact ⟨_, rfl, Or.inl ⟨_, rfl⟩⟩ | exact ⟨_, rfl, Or.inr ⟨_, rfl⟩⟩)⟩
  · exact ⟨by decide, (RX12, TX12, 7), rfl, by decide, Or.inl q296, rfl, by decide, (by first | exact trivial | rfl | exact ⟨_, rfl, Or.inl ⟨_, rfl⟩⟩ | exact ⟨_, rfl, Or.inr ⟨_, rfl⟩⟩)⟩⟩
theorem jg_X0_62_80 : jx_FG "LoopLane" (62, 80, 6, 2, 6, 10, 3, 2) := ⟨by decide, by decide, fun k hk => by
  have hk : 66 ≤ k ∧ k ≤ 72 := hk
  rcases (show k = 66 ∨ k = 67 ∨ k = 68 ∨ k = 69 ∨ k = 70 ∨ k = 71 ∨ k = 72 by omega) with rfl | rfl | rfl | rfl | rfl | rfl | rfl
  · exact ⟨by decide, (RX6, TX6, 8), rfl, by decide, Or.inl q298, rfl, by decide, (by first | exact trivial | rfl | exact ⟨_, rfl, Or.inl ⟨_, rfl⟩⟩ | exact ⟨_, rfl, Or.inr ⟨_, rfl⟩⟩)⟩
  · exact ⟨by decide, (RX7, TX7, 7), rfl, by decide, Or.inl q298, rfl, by decide, (by first | exact trivial | rfl | exact ⟨_, rfl, Or.inl ⟨_, rfl⟩⟩ | exact ⟨_, rfl, Or.inr ⟨_, rfl⟩⟩)⟩
  · exact ⟨by decide, (RX8, TX8, 7), rfl, by decide, Or.inl q298, rfl, by decide, (by first | exact trivial | rfl | exact ⟨_, rfl, Or.inl ⟨_, rfl⟩⟩ | exact ⟨_, rfl, Or.inr ⟨_, rfl⟩⟩)⟩
  · exact ⟨by decide, (RX9, TX9, 7), rfl, by decide, Or.inl q298, rfl, by decide, (by first | exact trivial | rfl | exact ⟨_, rfl, Or.inl ⟨_, rfl⟩⟩ | exact ⟨_, rfl, Or.inr ⟨_, rfl⟩⟩)⟩
  · exact ⟨by decide, (RX10, TX10, 8), rfl, by decide, Or.inl q298, rfl, by decide, (by first | exact trivial | rfl | exact ⟨_, rfl, Or.inl ⟨_, rfl⟩⟩ | exact ⟨_, rfl, Or.inr ⟨_, rfl⟩⟩)⟩
  · exact ⟨by decide, (RX11, TX11, 8), rfl, by decide, Or.inl q298, rfl, by decide, (by first | exact trivial | rfl | exact ⟨_, rfl, Or.inl ⟨_, rfl⟩⟩ | exact ⟨_, rfl, Or.inr ⟨_, rfl⟩⟩)⟩
  · exact ⟨by decide, (RX12, TX12, 7), rfl, by decide, Or.inl q298, rfl, by decide, (by first | exact trivial | rfl | exact ⟨_, rfl, Or.inl ⟨_, rfl⟩⟩ | exact ⟨_, rfl, Or.inr ⟨_, rfl⟩⟩)⟩⟩
theorem jg_X0_423_70 : jx_FG "LoopLane" (423, 70, 7, 0, 0, 0, 0, 0) := ⟨by decide, by decide, fun k hk => by
  have hk : k = 70 := hk
  subst hk
  exact ⟨by decide, (RX10, TX10, 8), rfl, by decide, Or.inr ⟨_, List.mem_filter.mpr ⟨q361, rfl⟩⟩, rfl, by decide, (by first | exact trivial | rfl | exact ⟨_, rfl, Or.inl ⟨_, rfl⟩⟩ | exact ⟨_, rfl, Or.inr ⟨_, rfl⟩⟩)⟩⟩
theorem jg_X0_423_71 : jx_FG "LoopLane" (423, 71, 7, 0, 0, 0, 0, 0) := ⟨by decide, by decide, fun k hk => by
  have hk : k = 71 := hk
  subst hk
  exact ⟨by decide, (RX11, TX11, 8), rfl, by decide, Or.inr ⟨_, List.mem_filter.mpr ⟨q361, rfl⟩⟩, rfl, by decide, (by first | exact trivial | rfl | exact ⟨_, rfl, Or.inl ⟨_, rfl⟩⟩ | exact ⟨_, rfl, Or.inr ⟨_, rfl⟩⟩)⟩⟩
theorem jg_X0_423_81 : jx_FG "LoopLane" (423, 81, 7, 0, 0, 0, 0, 0) := ⟨by decide, by decide, fun k hk => by
  have hk : k = 70 ∨ k = 71 := hk
  rcases hk with rfl | rfl
  · exact ⟨by decide, (RX10, TX10, 8), rfl, by decide, Or.inr ⟨_, List.mem_filter.mpr ⟨q361, rfl⟩⟩, rfl, by decide, (by first | exact trivial | rfl | exact ⟨_, rfl, Or.inl ⟨_, rfl⟩⟩ | exact ⟨_, rfl, Or.inr ⟨_, rfl⟩⟩)⟩
  · exact ⟨by decide, (RX11, TX11, 8), rfl, by decide, Or.inr ⟨_, List.mem_filter.mpr ⟨q361, rfl⟩⟩, rfl, by decide, (by first | exact trivial | rfl | exact ⟨_, rfl, Or.inl ⟨_, rfl⟩⟩ | exact ⟨_, rfl, Or.inr ⟨_, rfl⟩⟩)⟩⟩
theorem jg_X0_7_60 : jx_FG "LoopLane" (7, 60, 0, 2, 6, 30, 12, 1) := ⟨by decide, by decide, fun k hk => by
  have hk : k = 60 := hk
  subst hk
  exact ⟨by decide, (RX0, TX0, 47), rfl, by decide, Or.inl q403, rfl, by decide, (by first | exact trivial | rfl | exact ⟨_, rfl, Or.inl ⟨_, rfl⟩⟩ | exact ⟨_, rfl, Or.inr ⟨_, rfl⟩⟩)⟩⟩
theorem jg_X0_1_60 : jx_FG "LoopLane" (1, 60, 1, 2, 6, 10, 12, 2) := ⟨by decide, by decide, fun k hk => by
  have hk : k = 60 := hk
  subst hk
  exact ⟨by decide, (RX0, TX0, 47), rfl, by decide, Or.inl q404, rfl, by decide, (by first | exact trivial | rfl | exact ⟨_, rfl, Or.inl ⟨_, rfl⟩⟩ | exact ⟨_, rfl, Or.inr ⟨_, rfl⟩⟩)⟩⟩
theorem jg_X0_11_60 : jx_FG "LoopLane" (11, 60, 2, 0, 2, 0, 0, 0) := ⟨by decide, by decide, fun k hk => by
  have hk : k = 60 := hk
  subst hk
  exact ⟨by decide, (RX0, TX0, 47), rfl, by decide, Or.inl q405, rfl, by decide, (by first | exact trivial | rfl | exact ⟨_, rfl, Or.inl ⟨_, rfl⟩⟩ | exact ⟨_, rfl, Or.inr ⟨_, rfl⟩⟩)⟩⟩
theorem jg_X0_181_60 : jx_FG "LoopLane" (181, 60, 3, 2, 6, 61, 0, 3) := ⟨by decide, by decide, fun k hk => by
  have hk : k = 60 := hk
  subst hk
  exact ⟨by decide, (RX0, TX0, 47), rfl, by decide, Or.inl q406, rfl, by decide, (by first | exact trivial | rfl | exact ⟨_, rfl, Or.inl ⟨_, rfl⟩⟩ | exact ⟨_, rfl, Or.inr ⟨_, rfl⟩⟩)⟩⟩
theorem jg_X0_31_60 : jx_FG "LoopLane" (31, 60, 4, 2, 6, 32, 16, 13) := ⟨by decide, by decide, fun k hk => by
  have hk : k = 60 := hk
  subst hk
  exact ⟨by decide, (RX0, TX0, 47), rfl, by decide, Or.inl q407, rfl, by decide, (by first | exact trivial | rfl | exact ⟨_, rfl, Or.inl ⟨_, rfl⟩⟩ | exact ⟨_, rfl, Or.inr ⟨_, rfl⟩⟩)⟩⟩
theorem jg_X0_41_60 : jx_FG "LoopLane" (41, 60, 5, 0, 0, 0, 0, 0) := ⟨by decide, by decide, fun k hk => by
  have hk : k = 60 := hk
  subst hk
  exact ⟨by decide, (RX0, TX0, 47), rfl, by decide, Or.inl q408, rfl, by decide, (by first | exact trivial | rfl | exact ⟨_, rfl, Or.inl ⟨_, rfl⟩⟩ | exact ⟨_, rfl, Or.inr ⟨_, rfl⟩⟩)⟩⟩
theorem jg_X0_320_60 : jx_FG "LoopLane" (320, 60, 6, 2, 6, 33, 16, 14) := ⟨by decide, by decide, fun k hk => by
  have hk : k = 60 := hk
  subst hk
  exact ⟨by decide, (RX0, TX0, 47), rfl, by decide, Or.inl q409, rfl, by decide, (by first | exact trivial | rfl | exact ⟨_, rfl, Or.inl ⟨_, rfl⟩⟩ | exact ⟨_, rfl, Or.inr ⟨_, rfl⟩⟩)⟩⟩
theorem jg_X0_326_60 : jx_FG "LoopLane" (326, 60, 7, 2, 6, 34, 16, 15) := ⟨by decide, by decide, fun k hk => by
  have hk : k = 60 := hk
  subst hk
  exact ⟨by decide, (RX0, TX0, 47), rfl, by decide, Or.inl q410, rfl, by decide, (by first | exact trivial | rfl | exact ⟨_, rfl, Or.inl ⟨_, rfl⟩⟩ | exact ⟨_, rfl, Or.inr ⟨_, rfl⟩⟩)⟩⟩
theorem jg_X0_332_60 : jx_FG "LoopLane" (332, 60, 8, 2, 6, 35, 16, 16) := ⟨by decide, by decide, fun k hk => by
  have hk : k = 60 := hk
  subst hk
  exact ⟨by decide, (RX0, TX0, 47), rfl, by decide, Or.inl q411, rfl, by decide, (by first | exact trivial | rfl | exact ⟨_, rfl, Or.inl ⟨_, rfl⟩⟩ | exact ⟨_, rfl, Or.inr ⟨_, rfl⟩⟩)⟩⟩
theorem jg_X0_338_60 : jx_FG "LoopLane" (338, 60, 9, 2, 6, 36, 16, 17) := ⟨by decide, by decide, fun k hk => by
  have hk : k = 60 := hk
  subst hk
  exact ⟨by decide, (RX0, TX0, 47), rfl, by decide, Or.inl q412, rfl, by decide, (by first | exact trivial | rfl | exact ⟨_, rfl, Or.inl ⟨_, rfl⟩⟩ | exact ⟨_, rfl, Or.inr ⟨_, rfl⟩⟩)⟩⟩
theorem jg_X0_344_60 : jx_FG "LoopLane" (344, 60, 10, 2, 6, 37, 16, 18) := ⟨by decide, by decide, fun k hk => by
  have hk : k = 60 := hk
  subst hk
  exact ⟨by decide, (RX0, TX0, 47), rfl, by decide, Or.inl q413, rfl, by decide, (by first | exact trivial | rfl | exact ⟨_, rfl, Or.inl ⟨_, rfl⟩⟩ | exact ⟨_, rfl, Or.inr ⟨_, rfl⟩⟩)⟩⟩
theorem jg_X0_350_60 : jx_FG "LoopLane" (350, 60, 11, 2, 6, 38, 16, 19) := ⟨by decide, by decide, fun k hk => by
  have hk : k = 60 := hk
  subst hk
  exact ⟨by decide, (RX0, TX0, 47), rfl, by decide, Or.inl q414, rfl, by decide, (by first | exact trivial | rfl | exact ⟨_, rfl, Or.inl ⟨_, rfl⟩⟩ | exact ⟨_, rfl, Or.inr ⟨_, rfl⟩⟩)⟩⟩
theorem jg_X0_356_60 : jx_FG "LoopLane" (356, 60, 12, 2, 6, 39, 16, 20) := ⟨by decide, by decide, fun k hk => by
  have hk : k = 60 := hk
  subst hk
  exact ⟨by decide, (RX0, TX0, 47), rfl, by decide, Or.inl q415, rfl, by decide, (by first | exact trivial | rfl | exact ⟨_, rfl, Or.inl ⟨_, rfl⟩⟩ | exact ⟨_, rfl, Or.inr ⟨_, rfl⟩⟩)⟩⟩
theorem jg_X0_115_60 : jx_FG "LoopLane" (115, 60, 13, 2, 6, 10, 6, 21) := ⟨by decide, by decide, fun k hk => by
  have hk : k = 60 := hk
  subst hk
  exact ⟨by decide, (RX0, TX0, 47), rfl, by decide, Or.inl q416, rfl, by decide, (by first | exact trivial | rfl | exact ⟨_, rfl, Or.inl ⟨_, rfl⟩⟩ | exact ⟨_, rfl, Or.inr ⟨_, rfl⟩⟩)⟩⟩
theorem jg_X0_78_60 : jx_FG "LoopLane" (78, 60, 14, 2, 6, 10, 40, 22) := ⟨by decide, by decide, fun k hk => by
  have hk : k = 60 := hk
  subst hk
  exact ⟨by decide, (RX0, TX0, 47), rfl, by decide, Or.inl q417, rfl, by decide, (by first | exact trivial | rfl | exact ⟨_, rfl, Or.inl ⟨_, rfl⟩⟩ | exact ⟨_, rfl, Or.inr ⟨_, rfl⟩⟩)⟩⟩
theorem jg_X0_81_60 : jx_FG "LoopLane" (81, 60, 15, 2, 6, 10, 40, 23) := ⟨by decide, by decide, fun k hk => by
  have hk : k = 60 := hk
  subst hk
  exact ⟨by decide, (RX0, TX0, 47), rfl, by decide, Or.inl q418, rfl, by decide, (by first | exact trivial | rfl | exact ⟨_, rfl, Or.inl ⟨_, rfl⟩⟩ | exact ⟨_, rfl, Or.inr ⟨_, rfl⟩⟩)⟩⟩
theorem jg_X0_84_60 : jx_FG "LoopLane" (84, 60, 16, 2, 6, 10, 40, 24) := ⟨by decide, by decide, fun k hk => by
  have hk : k = 60 := hk
  subst hk
  exact ⟨by decide, (RX0, TX0, 47), rfl, by decide, Or.inl q419, rfl, by decide, (by first | exact trivial | rfl | exact ⟨_, rfl, Or.inl ⟨_, rfl⟩⟩ | exact ⟨_, rfl, Or.inr ⟨_, rfl⟩⟩)⟩⟩
theorem jg_X0_87_60 : jx_FG "LoopLane" (87, 60, 17, 2, 6, 10, 40, 25) := ⟨by decide, by decide, fun k hk => by
  have hk : k = 60 := hk
  subst hk
  exact ⟨by decide, (RX0, TX0, 47), rfl, by decide, Or.inl q420, rfl, by decide, (by first | exact trivial | rfl | exact ⟨_, rfl, Or.inl ⟨_, rfl⟩⟩ | exact ⟨_, rfl, Or.inr ⟨_, rfl⟩⟩)⟩⟩
theorem jg_X0_75_60 : jx_FG "LoopLane" (75, 60, 18, 0, 0, 0, 0, 0) := ⟨by decide, by decide, fun k hk => by
  have hk : k = 60 := hk
  subst hk
  exact ⟨by decide, (RX0, TX0, 47), rfl, by decide, Or.inl q421, rfl, by decide, (by first | exact trivial | rfl | exact ⟨_, rfl, Or.inl ⟨_, rfl⟩⟩ | exact ⟨_, rfl, Or.inr ⟨_, rfl⟩⟩)⟩⟩
theorem jg_X0_15_60 : jx_FG "LoopLane" (15, 60, 19, 2, 6, 10, 900, 26) := ⟨by decide, by decide, fun k hk => by
  have hk : k = 60 := hk
  subst hk
  exact ⟨by decide, (RX0, TX0, 47), rfl, by decide, Or.inl q422, rfl, by decide, (by first | exact trivial | rfl | exact ⟨_, rfl, Or.inl ⟨_, rfl⟩⟩ | exact ⟨_, rfl, Or.inr ⟨_, rfl⟩⟩)⟩⟩
theorem jg_X0_22_60 : jx_FG "LoopLane" (22, 60, 20, 2, 6, 10, 900, 27) := ⟨by decide, by decide, fun k hk => by
  have hk : k = 60 := hk
  subst hk
  exact ⟨by decide, (RX0, TX0, 47), rfl, by decide, Or.inl q423, rfl, by decide, (by first | exact trivial | rfl | exact ⟨_, rfl, Or.inl ⟨_, rfl⟩⟩ | exact ⟨_, rfl, Or.inr ⟨_, rfl⟩⟩)⟩⟩
theorem jg_X0_25_60 : jx_FG "LoopLane" (25, 60, 21, 2, 6, 10, 900, 28) := ⟨by decide, by decide, fun k hk => by
  have hk : k = 60 := hk
  subst hk
  exact ⟨by decide, (RX0, TX0, 47), rfl, by decide, Or.inl q424, rfl, by decide, (by first | exact trivial | rfl | exact ⟨_, rfl, Or.inl ⟨_, rfl⟩⟩ | exact ⟨_, rfl, Or.inr ⟨_, rfl⟩⟩)⟩⟩
theorem jg_X0_28_60 : jx_FG "LoopLane" (28, 60, 22, 2, 6, 10, 900, 29) := ⟨by decide, by decide, fun k hk => by
  have hk : k = 60 := hk
  subst hk
  exact ⟨by decide, (RX0, TX0, 47), rfl, by decide, Or.inl q425, rfl, by decide, (by first | exact trivial | rfl | exact ⟨_, rfl, Or.inl ⟨_, rfl⟩⟩ | exact ⟨_, rfl, Or.inr ⟨_, rfl⟩⟩)⟩⟩
theorem jg_X0_18_60 : jx_FG "LoopLane" (18, 60, 23, 0, 0, 0, 0, 0) := ⟨by decide, by decide, fun k hk => by
  have hk : k = 60 := hk
  subst hk
  exact ⟨by decide, (RX0, TX0, 47), rfl, by decide, Or.inl q426, rfl, by decide, (by first | exact trivial | rfl | exact ⟨_, rfl, Or.inl ⟨_, rfl⟩⟩ | exact ⟨_, rfl, Or.inr ⟨_, rfl⟩⟩)⟩⟩
theorem jg_X0_72_60 : jx_FG "LoopLane" (72, 60, 24, 0, 0, 0, 0, 0) := ⟨by decide, by decide, fun k hk => by
  have hk : k = 60 := hk
  subst hk
  exact ⟨by decide, (RX0, TX0, 47), rfl, by decide, Or.inl q427, rfl, by decide, (by first | exact trivial | rfl | exact ⟨_, rfl, Or.inl ⟨_, rfl⟩⟩ | exact ⟨_, rfl, Or.inr ⟨_, rfl⟩⟩)⟩⟩
theorem jg_X0_161_60 : jx_FG "LoopLane" (161, 60, 25, 1, 0, 0, 0, 0) := ⟨by decide, by decide, fun k hk => by
  have hk : k = 60 := hk
  subst hk
  exact ⟨by decide, (RX0, TX0, 47), rfl, by decide, Or.inl q428, rfl, by decide, (by first | exact trivial | rfl | exact ⟨_, rfl, Or.inl ⟨_, rfl⟩⟩ | exact ⟨_, rfl, Or.inr ⟨_, rfl⟩⟩)⟩⟩
theorem jg_X0_152_60 : jx_FG "LoopLane" (152, 60, 26, 0, 0, 0, 0, 0) := ⟨by decide, by decide, fun k hk => by
  have hk : k = 60 := hk
  subst hk
  exact ⟨by decide, (RX0, TX0, 47), rfl, by decide, Or.inl q429, rfl, by decide, (by first | exact trivial | rfl | exact ⟨_, rfl, Or.inl ⟨_, rfl⟩⟩ | exact ⟨_, rfl, Or.inr ⟨_, rfl⟩⟩)⟩⟩
theorem jg_X0_158_60 : jx_FG "LoopLane" (158, 60, 27, 2, 6, 10, 16, 30) := ⟨by decide, by decide, fun k hk => by
  have hk : k = 60 := hk
  subst hk
  exact ⟨by decide, (RX0, TX0, 47), rfl, by decide, Or.inl q430, rfl, by decide, (by first | exact trivial | rfl | exact ⟨_, rfl, Or.inl ⟨_, rfl⟩⟩ | exact ⟨_, rfl, Or.inr ⟨_, rfl⟩⟩)⟩⟩
theorem jg_X0_155_60 : jx_FG "LoopLane" (155, 60, 28, 2, 6, 10, 16, 31) := ⟨by decide, by decide, fun k hk => by
  have hk : k = 60 := hk
  subst hk
  exact ⟨by decide, (RX0, TX0, 47), rfl, by decide, Or.inl q431, rfl, by decide, (by first | exact trivial | rfl | exact ⟨_, rfl, Or.inl ⟨_, rfl⟩⟩ | exact ⟨_, rfl, Or.inr ⟨_, rfl⟩⟩)⟩⟩
theorem jg_X0_360_60 : jx_FG "LoopLane" (360, 60, 29, 2, 6, 10, 16, 32) := ⟨by decide, by decide, fun k hk => by
  have hk : k = 60 := hk
  subst hk
  exact ⟨by decide, (RX0, TX0, 47), rfl, by decide, Or.inl q432, rfl, by decide, (by first | exact trivial | rfl | exact ⟨_, rfl, Or.inl ⟨_, rfl⟩⟩ | exact ⟨_, rfl, Or.inr ⟨_, rfl⟩⟩)⟩⟩
theorem jg_X0_129_60 : jx_FG "LoopLane" (129, 60, 30, 0, 0, 0, 0, 0) := ⟨by decide, by decide, fun k hk => by
  have hk : k = 60 := hk
  subst hk
  exact ⟨by decide, (RX0, TX0, 47), rfl, by decide, Or.inl q433, rfl, by decide, (by first | exact trivial | rfl | exact ⟨_, rfl, Or.inl ⟨_, rfl⟩⟩ | exact ⟨_, rfl, Or.inr ⟨_, rfl⟩⟩)⟩⟩
theorem jg_X0_100_60 : jx_FG "LoopLane" (100, 60, 31, 2, 6, 10, 16, 33) := ⟨by decide, by decide, fun k hk => by
  have hk : k = 60 := hk
  subst hk
  exact ⟨by decide, (RX0, TX0, 47), rfl, by decide, Or.inl q434, rfl, by decide, (by first | exact trivial | rfl | exact ⟨_, rfl, Or.inl ⟨_, rfl⟩⟩ | exact ⟨_, rfl, Or.inr ⟨_, rfl⟩⟩)⟩⟩
theorem jg_X0_149_60 : jx_FG "LoopLane" (149, 60, 32, 2, 6, 10, 16, 34) := ⟨by decide, by decide, fun k hk => by
  have hk : k = 60 := hk
  subst hk
  exact ⟨by decide, (RX0, TX0, 47), rfl, by decide, Or.inl q435, rfl, by decide, (by first | exact trivial | rfl | exact ⟨_, rfl, Or.inl ⟨_, rfl⟩⟩ | exact ⟨_, rfl, Or.inr ⟨_, rfl⟩⟩)⟩⟩
theorem jg_X0_132_60 : jx_FG "LoopLane" (132, 60, 33, 2, 6, 10, 360, 35) := ⟨by decide, by decide, fun k hk => by
  have hk : k = 60 := hk
  subst hk
  exact ⟨by decide, (RX0, TX0, 47), rfl, by decide, Or.inl q436, rfl, by decide, (by first | exact trivial | rfl | exact ⟨_, rfl, Or.inl ⟨_, rfl⟩⟩ | exact ⟨_, rfl, Or.inr ⟨_, rfl⟩⟩)⟩⟩
theorem jg_X0_135_60 : jx_FG "LoopLane" (135, 60, 34, 0, 0, 0, 0, 0) := ⟨by decide, by decide, fun k hk => by
  have hk : k = 60 := hk
  subst hk
  exact ⟨by decide, (RX0, TX0, 47), rfl, by decide, Or.inl q437, rfl, by decide, (by first | exact trivial | rfl | exact ⟨_, rfl, Or.inl ⟨_, rfl⟩⟩ | exact ⟨_, rfl, Or.inr ⟨_, rfl⟩⟩)⟩⟩
theorem jg_X0_138_60 : jx_FG "LoopLane" (138, 60, 35, 1, 0, 0, 0, 0) := ⟨by decide, by decide, fun k hk => by
  have hk : k = 60 := hk
  subst hk
  exact ⟨by decide, (RX0, TX0, 47), rfl, by decide, Or.inl q438, rfl, by decide, (by first | exact trivial | rfl | exact ⟨_, rfl, Or.inl ⟨_, rfl⟩⟩ | exact ⟨_, rfl, Or.inr ⟨_, rfl⟩⟩)⟩⟩
theorem jg_X0_96_60 : jx_FG "LoopLane" (96, 60, 36, 2, 6, 10, 256, 36) := ⟨by decide, by decide, fun k hk => by
  have hk : k = 60 := hk
  subst hk
  exact ⟨by decide, (RX0, TX0, 47), rfl, by decide, Or.inl q439, rfl, by decide, (by first | exact trivial | rfl | exact ⟨_, rfl, Or.inl ⟨_, rfl⟩⟩ | exact ⟨_, rfl, Or.inr ⟨_, rfl⟩⟩)⟩⟩
theorem jg_X0_168_60 : jx_FG "LoopLane" (168, 60, 37, 0, 6, 63, 0, 37) := ⟨by decide, by decide, fun k hk => by
  have hk : k = 60 := hk
  subst hk
  exact ⟨by decide, (RX0, TX0, 47), rfl, by decide, Or.inl q440, rfl, by decide, (by first | exact trivial | rfl | exact ⟨_, rfl, Or.inl ⟨_, rfl⟩⟩ | exact ⟨_, rfl, Or.inr ⟨_, rfl⟩⟩)⟩⟩
theorem jg_X0_293_60 : jx_FG "LoopLane" (293, 60, 38, 0, 6, 63, 0, 39) := ⟨by decide, by decide, fun k hk => by
  have hk : k = 60 := hk
  subst hk
  exact ⟨by decide, (RX0, TX0, 47), rfl, by decide, Or.inl q441, rfl, by decide, (by first | exact trivial | rfl | exact ⟨_, rfl, Or.inl ⟨_, rfl⟩⟩ | exact ⟨_, rfl, Or.inr ⟨_, rfl⟩⟩)⟩⟩
theorem jg_X0_303_60 : jx_FG "LoopLane" (303, 60, 39, 2, 6, 63, 0, 41) := ⟨by decide, by decide, fun k hk => by
  have hk : k = 60 := hk
  subst hk
  exact ⟨by decide, (RX0, TX0, 47), rfl, by decide, Or.inl q442, rfl, by decide, (by first | exact trivial | rfl | exact ⟨_, rfl, Or.inl ⟨_, rfl⟩⟩ | exact ⟨_, rfl, Or.inr ⟨_, rfl⟩⟩)⟩⟩
theorem jg_X0_177_60 : jx_FG "LoopLane" (177, 60, 40, 2, 6, 11, 3200, 43) := ⟨by decide, by decide, fun k hk => by
  have hk : k = 60 := hk
  subst hk
  exact ⟨by decide, (RX0, TX0, 47), rfl, by decide, Or.inl q443, rfl, by decide, (by first | exact trivial | rfl | exact ⟨_, rfl, Or.inl ⟨_, rfl⟩⟩ | exact ⟨_, rfl, Or.inr ⟨_, rfl⟩⟩)⟩⟩
theorem jg_X0_225_60 : jx_FG "LoopLane" (225, 60, 41, 2, 6, 11, 16000, 44) := ⟨by decide, by decide, fun k hk => by
  have hk : k = 60 := hk
  subst hk
  exact ⟨by decide, (RX0, TX0, 47), rfl, by decide, Or.inl q444, rfl, by decide, (by first | exact trivial | rfl | exact ⟨_, rfl, Or.inl ⟨_, rfl⟩⟩ | exact ⟨_, rfl, Or.inr ⟨_, rfl⟩⟩)⟩⟩
theorem jg_X0_228_60 : jx_FG "LoopLane" (228, 60, 42, 2, 6, 10, 16, 45) := ⟨by decide, by decide, fun k hk => by
  have hk : k = 60 := hk
  subst hk
  exact ⟨by decide, (RX0, TX0, 47), rfl, by decide, Or.inl q445, rfl, by decide, (by first | exact trivial | rfl | exact ⟨_, rfl, Or.inl ⟨_, rfl⟩⟩ | exact ⟨_, rfl, Or.inr ⟨_, rfl⟩⟩)⟩⟩
theorem jg_X0_238_60 : jx_FG "LoopLane" (238, 60, 43, 2, 6, 10, 16, 46) := ⟨by decide, by decide, fun k hk => by
  have hk : k = 60 := hk
  subst hk
  exact ⟨by decide, (RX0, TX0, 47), rfl, by decide, Or.inl q446, rfl, by decide, (by first | exact trivial | rfl | exact ⟨_, rfl, Or.inl ⟨_, rfl⟩⟩ | exact ⟨_, rfl, Or.inr ⟨_, rfl⟩⟩)⟩⟩
theorem jg_X0_286_60 : jx_FG "LoopLane" (286, 60, 44, 2, 6, 11, 320, 47) := ⟨by decide, by decide, fun k hk => by
  have hk : k = 60 := hk
  subst hk
  exact ⟨by decide, (RX0, TX0, 47), rfl, by decide, Or.inl q447, rfl, by decide, (by first | exact trivial | rfl | exact ⟨_, rfl, Or.inl ⟨_, rfl⟩⟩ | exact ⟨_, rfl, Or.inr ⟨_, rfl⟩⟩)⟩⟩
theorem jg_X0_300_60 : jx_FG "LoopLane" (300, 60, 45, 2, 6, 11, 320, 48) := ⟨by decide, by decide, fun k hk => by
  have hk : k = 60 := hk
  subst hk
  exact ⟨by decide, (RX0, TX0, 47), rfl, by decide, Or.inl q448, rfl, by decide, (by first | exact trivial | rfl | exact ⟨_, rfl, Or.inl ⟨_, rfl⟩⟩ | exact ⟨_, rfl, Or.inr ⟨_, rfl⟩⟩)⟩⟩
theorem jg_X0_364_60 : jx_FG "LoopLane" (364, 60, 46, 2, 6, 10, 6, 49) := ⟨by decide, by decide, fun k hk => by
  have hk : k = 60 := hk
  subst hk
  exact ⟨by decide, (RX0, TX0, 47), rfl, by decide, Or.inl q449, rfl, by decide, (by first | exact trivial | rfl | exact ⟨_, rfl, Or.inl ⟨_, rfl⟩⟩ | exact ⟨_, rfl, Or.inr ⟨_, rfl⟩⟩)⟩⟩
theorem jg_X1_18_62 : jx_FG "LoopLane$Lane" (18, 62, 0, 0, 2, 0, 0, 0) := ⟨by decide, by decide, fun k hk => by
  have hk : k = 62 := hk
  subst hk
  exact ⟨by decide, (RX2, TX2, 1), rfl, by decide, Or.inr ⟨_, List.mem_filter.mpr ⟨q123, rfl⟩⟩, rfl, by decide, (by first | exact trivial | rfl | exact ⟨_, rfl, Or.inl ⟨_, rfl⟩⟩ | exact ⟨_, rfl, Or.inr ⟨_, rfl⟩⟩)⟩⟩
theorem jg_X1_11_61 : jx_FG "LoopLane$Lane" (11, 61, 0, 2, 6, 31, 8, 1) := ⟨by decide, by decide, fun k hk => by
  have hk : k = 61 := hk
  subst hk
  exact ⟨by decide, (RX1, TX1, 1), rfl, by decide, Or.inl q129, rfl, by decide, (by first | exact trivial | rfl | exact ⟨_, rfl, Or.inl ⟨_, rfl⟩⟩ | exact ⟨_, rfl, Or.inr ⟨_, rfl⟩⟩)⟩⟩
theorem jg_X3_15_63 : jx_FG "LoopLane$Result" (15, 63, 0, 0, 0, 0, 0, 0) := ⟨by decide, by decide, fun k hk => by
  have hk : k = 63 := hk
  subst hk
  exact ⟨by decide, (RX3, TX3, 8), rfl, by decide, Or.inl q156, rfl, by decide, (by first | exact trivial | rfl | exact ⟨_, rfl, Or.inl ⟨_, rfl⟩⟩ | exact ⟨_, rfl, Or.inr ⟨_, rfl⟩⟩)⟩⟩
theorem jg_X3_19_63 : jx_FG "LoopLane$Result" (19, 63, 1, 0, 0, 0, 0, 0) := ⟨by decide, by decide, fun k hk => by
  have hk : k = 63 := hk
  subst hk
  exact ⟨by decide, (RX3, TX3, 8), rfl, by decide, Or.inl q158, rfl, by decide, (by first | exact trivial | rfl | exact ⟨_, rfl, Or.inl ⟨_, rfl⟩⟩ | exact ⟨_, rfl, Or.inr ⟨_, rfl⟩⟩)⟩⟩
theorem jg_X3_22_63 : jx_FG "LoopLane$Result" (22, 63, 2, 0, 0, 0, 0, 0) := ⟨by decide, by decide, fun k hk => by
  have hk : k = 63 := hk
  subst hk
  exact ⟨by decide, (RX3, TX3, 8), rfl, by decide, Or.inl q160, rfl, by decide, (by first | exact trivial | rfl | exact ⟨_, rfl, Or.inl ⟨_, rfl⟩⟩ | exact ⟨_, rfl, Or.inr ⟨_, rfl⟩⟩)⟩⟩
theorem jg_X3_25_63 : jx_FG "LoopLane$Result" (25, 63, 3, 0, 0, 0, 0, 0) := ⟨by decide, by decide, fun k hk => by
  have hk : k = 63 := hk
  subst hk
  exact ⟨by decide, (RX3, TX3, 8), rfl, by decide, Or.inl q162, rfl, by decide, (by first | exact trivial | rfl | exact ⟨_, rfl, Or.inl ⟨_, rfl⟩⟩ | exact ⟨_, rfl, Or.inr ⟨_, rfl⟩⟩)⟩⟩
theorem jg_X3_28_63 : jx_FG "LoopLane$Result" (28, 63, 4, 0, 0, 0, 0, 0) := ⟨by decide, by decide, fun k hk => by
  have hk : k = 63 := hk
  subst hk
  exact ⟨by decide, (RX3, TX3, 8), rfl, by decide, Or.inl q164, rfl, by decide, (by first | exact trivial | rfl | exact ⟨_, rfl, Or.inl ⟨_, rfl⟩⟩ | exact ⟨_, rfl, Or.inr ⟨_, rfl⟩⟩)⟩⟩
theorem jg_X3_31_63 : jx_FG "LoopLane$Result" (31, 63, 5, 1, 0, 0, 0, 0) := ⟨by decide, by decide, fun k hk => by
  have hk : k = 63 := hk
  subst hk
  exact ⟨by decide, (RX3, TX3, 8), rfl, by decide, Or.inl q166, rfl, by decide, (by first | exact trivial | rfl | exact ⟨_, rfl, Or.inl ⟨_, rfl⟩⟩ | exact ⟨_, rfl, Or.inr ⟨_, rfl⟩⟩)⟩⟩
theorem jg_X3_35_63 : jx_FG "LoopLane$Result" (35, 63, 6, 0, 0, 0, 0, 0) := ⟨by decide, by decide, fun k hk => by
  have hk : k = 63 := hk
  subst hk
  exact ⟨by decide, (RX3, TX3, 8), rfl, by decide, Or.inl q168, rfl, by decide, (by first | exact trivial | rfl | exact ⟨_, rfl, Or.inl ⟨_, rfl⟩⟩ | exact ⟨_, rfl, Or.inr ⟨_, rfl⟩⟩)⟩⟩
theorem jg_X3_9_63 : jx_FG "LoopLane$Result" (9, 63, 7, 2, 6, 11, 16, 1) := ⟨by decide, by decide, fun k hk => by
  have hk : k = 63 := hk
  subst hk
  exact ⟨by decide, (RX3, TX3, 8), rfl, by decide, Or.inl q170, rfl, by decide, (by first | exact trivial | rfl | exact ⟨_, rfl, Or.inl ⟨_, rfl⟩⟩ | exact ⟨_, rfl, Or.inr ⟨_, rfl⟩⟩)⟩⟩
theorem jg_X4_7_64 : jx_FG "LoopLane$Refusal" (7, 64, 6, 2, 0, 0, 0, 0) := ⟨by decide, by decide, fun k hk => by
  have hk : k = 64 := hk
  subst hk
  exact ⟨by decide, (RX4, TX4, 7), rfl, by decide, Or.inl q258, rfl, by decide, (by first | exact trivial | rfl | exact ⟨_, rfl, Or.inl ⟨_, rfl⟩⟩ | exact ⟨_, rfl, Or.inr ⟨_, rfl⟩⟩)⟩⟩
theorem jg_X5_18_80 : jx_FG "LoopLane$Act" (18, 80, 0, 0, 0, 0, 0, 0) := ⟨by decide, by decide, fun k hk => by
  have hk : 66 ≤ k ∧ k ≤ 72 := hk
  rcases (show k = 66 ∨ k = 67 ∨ k = 68 ∨ k = 69 ∨ k = 70 ∨ k = 71 ∨ k = 72 by omega) with rfl | rfl | rfl | rfl | rfl | rfl | rfl
  · exact ⟨by decide, (RX6, TX6, 8), rfl, by decide, Or.inl q285, rfl, by decide, (by first | exact trivial | rfl | exact ⟨_, rfl, Or.inl ⟨_, rfl⟩⟩ | exact ⟨_, rfl, Or.inr ⟨_, rfl⟩⟩)⟩
  · exact ⟨by decide, (RX7, TX7, 7), rfl, by decide, Or.inl q285, rfl, by decide, (by first | exact trivial | rfl | exact ⟨_, rfl, Or.inl ⟨_, rfl⟩⟩ | exact ⟨_, rfl, Or.inr ⟨_, rfl⟩⟩)⟩
  · exact ⟨by decide, (RX8, TX8, 7), rfl, by decide, Or.inl q285, rfl, by decide, (by first | exact trivial | rfl | exact ⟨_, rfl, Or.inl ⟨_, rfl⟩⟩ | exact ⟨_, rfl, Or.inr ⟨_, rfl⟩⟩)⟩
  · exact ⟨by decide, (RX9, TX9, 7), rfl, by decide, Or.inl q285, rfl, by decide, (by first | exact trivial | rfl | exact ⟨_, rfl, Or.inl ⟨_, rfl⟩⟩ | exact ⟨_, rfl, Or.inr ⟨_, rfl⟩⟩)⟩
  · exact ⟨by decide, (RX10, TX10, 8), rfl, by decide, Or.inl q285, rfl, by decide, (by first | exact trivial | rfl | exact ⟨_, rfl, Or.inl ⟨_, rfl⟩⟩ | exact ⟨_, rfl, Or.inr ⟨_, rfl⟩⟩)⟩
  · exact ⟨by decide, (RX11, TX11, 8), rfl, by decide, Or.inl q285, rfl, by decide, (by first | exact trivial | rfl | exact ⟨_, rfl, Or.inl ⟨_, rfl⟩⟩ | exact ⟨_, rfl, Or.inr ⟨_, rfl⟩⟩)⟩
  · exact ⟨by decide, (RX12, TX12, 7), rfl, by decide, Or.inl q285, rfl, by decide, (by first | exact trivial | rfl | exact ⟨_, rfl, Or.inl ⟨_, rfl⟩⟩ | exact ⟨_, rfl, Or.inr ⟨_, rfl⟩⟩)⟩⟩
theorem jg_X5_22_80 : jx_FG "LoopLane$Act" (22, 80, 1, 0, 0, 0, 0, 0) := ⟨by decide, by decide, fun k hk => by
  have hk : 66 ≤ k ∧ k ≤ 72 := hk
  rcases (show k = 66 ∨ k = 67 ∨ k = 68 ∨ k = 69 ∨ k = 70 ∨ k = 71 ∨ k = 72 by omega) with rfl | rfl | rfl | rfl | rfl | rfl | rfl
  · exact ⟨by decide, (RX6, TX6, 8), rfl, by decide, Or.inl q287, rfl, by decide, (by first | exact trivial | rfl | exact ⟨_, rfl, Or.inl ⟨_, rfl⟩⟩ | exact ⟨_, rfl, Or.inr ⟨_, rfl⟩⟩)⟩
  · exact ⟨by decide, (RX7, TX7, 7), rfl, by decide, Or.inl q287, rfl, by decide, (by first | exact trivial | rfl | exact ⟨_, rfl, Or.inl ⟨_, rfl⟩⟩ | exact ⟨_, rfl, Or.inr ⟨_, rfl⟩⟩)⟩
  · exact ⟨by decide, (RX8, TX8, 7), rfl, by decide, Or.inl q287, rfl, by decide, (by first | exact trivial | rfl | exact ⟨_, rfl, Or.inl ⟨_, rfl⟩⟩ | exact ⟨_, rfl, Or.inr ⟨_, rfl⟩⟩)⟩
  · exact ⟨by decide, (RX9, TX9, 7), rfl, by decide, Or.inl q287, rfl, by decide, (by first | exact trivial | rfl | exact ⟨_, rfl, Or.inl ⟨_, rfl⟩⟩ | exact ⟨_, rfl, Or.inr ⟨_, rfl⟩⟩)⟩
  · exact ⟨by decide, (RX10, TX10, 8), rfl, by decide, Or.inl q287, rfl, by decide, (by first | exact trivial | rfl | exact ⟨_, rfl, Or.inl ⟨_, rfl⟩⟩ | exact ⟨_, rfl, Or.inr ⟨_, rfl⟩⟩)⟩
  · exact ⟨by decide, (RX11, TX11, 8), rfl, by decide, Or.inl q287, rfl, by decide, (by first | exact trivial | rfl | exact ⟨_, rfl, Or.inl ⟨_, rfl⟩⟩ | exact ⟨_, rfl, Or.inr ⟨_, rfl⟩⟩)⟩
  · exact ⟨by decide, (RX12, TX12, 7), rfl, by decide, Or.inl q287, rfl, by decide, (by first | exact trivial | rfl | exact ⟨_, rfl, Or.inl ⟨_, rfl⟩⟩ | exact ⟨_, rfl, Or.inr ⟨_, rfl⟩⟩)⟩⟩
theorem jg_X5_25_80 : jx_FG "LoopLane$Act" (25, 80, 2, 0, 0, 0, 0, 0) := ⟨by decide, by decide, fun k hk => by
  have hk : 66 ≤ k ∧ k ≤ 72 := hk
  rcases (show k = 66 ∨ k = 67 ∨ k = 68 ∨ k = 69 ∨ k = 70 ∨ k = 71 ∨ k = 72 by omega) with rfl | rfl | rfl | rfl | rfl | rfl | rfl
  · exact ⟨by decide, (RX6, TX6, 8), rfl, by decide, Or.inl q289, rfl, by decide, (by first | exact trivial | rfl | exact ⟨_, rfl, Or.inl ⟨_, rfl⟩⟩ | exact ⟨_, rfl, Or.inr ⟨_, rfl⟩⟩)⟩
  · exact ⟨by decide, (RX7, TX7, 7), rfl, by decide, Or.inl q289, rfl, by decide, (by first | exact trivial | rfl | exact ⟨_, rfl, Or.inl ⟨_, rfl⟩⟩ | exact ⟨_, rfl, Or.inr ⟨_, rfl⟩⟩)⟩
  · exact ⟨by decide, (RX8, TX8, 7), rfl, by decide, Or.inl q289, rfl, by decide, (by first | exact trivial | rfl | exact ⟨_, rfl, Or.inl ⟨_, rfl⟩⟩ | exact ⟨_, rfl, Or.inr ⟨_, rfl⟩⟩)⟩
  · exact ⟨by decide, (RX9, TX9, 7), rfl, by decide, Or.inl q289, rfl, by decide, (by first | exact trivial | rfl | exact ⟨_, rfl, Or.inl ⟨_, rfl⟩⟩ | exact ⟨_, rfl, Or.inr ⟨_, rfl⟩⟩)⟩
  · exact ⟨by decide, (RX10, TX10, 8), rfl, by decide, Or.inl q289, rfl, by decide, (by first | exact trivial | rfl | exact ⟨_, rfl, Or.inl ⟨_, rfl⟩⟩ | exact ⟨_, rfl, Or.inr ⟨_, rfl⟩⟩)⟩
  · exact ⟨by decide, (RX11, TX11, 8), rfl, by decide, Or.inl q289, rfl, by decide, (by first | exact trivial | rfl | exact ⟨_, rfl, Or.inl ⟨_, rfl⟩⟩ | exact ⟨_, rfl, Or.inr ⟨_, rfl⟩⟩)⟩
  · exact ⟨by decide, (RX12, TX12, 7), rfl, by decide, Or.inl q289, rfl, by decide, (by first | exact trivial | rfl | exact ⟨_, rfl, Or.inl ⟨_, rfl⟩⟩ | exact ⟨_, rfl, Or.inr ⟨_, rfl⟩⟩)⟩⟩
theorem jg_X5_28_80 : jx_FG "LoopLane$Act" (28, 80, 3, 0, 1, 0, 0, 0) := ⟨by decide, by decide, fun k hk => by
  have hk : 66 ≤ k ∧ k ≤ 72 := hk
  rcases (show k = 66 ∨ k = 67 ∨ k = 68 ∨ k = 69 ∨ k = 70 ∨ k = 71 ∨ k = 72 by omega) with rfl | rfl | rfl | rfl | rfl | rfl | rfl
  · exact ⟨by decide, (RX6, TX6, 8), rfl, by decide, Or.inl q291, rfl, by decide, (by first | exact trivial | rfl | exact ⟨_, rfl, Or.inl ⟨_, rfl⟩⟩ | exact ⟨_, rfl, Or.inr ⟨_, rfl⟩⟩)⟩
  · exact ⟨by decide, (RX7, TX7, 7), rfl, by decide, Or.inl q291, rfl, by decide, (by first | exact trivial | rfl | exact ⟨_, rfl, Or.inl ⟨_, rfl⟩⟩ | exact ⟨_, rfl, Or.inr ⟨_, rfl⟩⟩)⟩
  · exact ⟨by decide, (RX8, TX8, 7), rfl, by decide, Or.inl q291, rfl, by decide, (by first | exact trivial | rfl | exact ⟨_, rfl, Or.inl ⟨_, rfl⟩⟩ | exact ⟨_, rfl, Or.inr ⟨_, rfl⟩⟩)⟩
  · exact ⟨by decide, (RX9, TX9, 7), rfl, by decide, Or.inl q291, rfl, by decide, (by first | exact trivial | rfl | exact ⟨_, rfl, Or.inl ⟨_, rfl⟩⟩ | exact ⟨_, rfl, Or.inr ⟨_, rfl⟩⟩)⟩
  · exact ⟨by decide, (RX10, TX10, 8), rfl, by decide, Or.inl q291, rfl, by decide, (by first | exact trivial | rfl | exact ⟨_, rfl, Or.inl ⟨_, rfl⟩⟩ | exact ⟨_, rfl, Or.inr ⟨_, rfl⟩⟩)⟩
  · exact ⟨by decide, (RX11, TX11, 8), rfl, by decide, Or.inl q291, rfl, by decide, (by first | exact trivial | rfl | exact ⟨_, rfl, Or.inl ⟨_, rfl⟩⟩ | exact ⟨_, rfl, Or.inr ⟨_, rfl⟩⟩)⟩
  · exact ⟨by decide, (RX12, TX12, 7), rfl, by decide, Or.inl q291, rfl, by decide, (by first | exact trivial | rfl | exact ⟨_, rfl, Or.inl ⟨_, rfl⟩⟩ | exact ⟨_, rfl, Or.inr ⟨_, rfl⟩⟩)⟩⟩
theorem jg_X5_32_80 : jx_FG "LoopLane$Act" (32, 80, 4, 0, 0, 0, 0, 0) := ⟨by decide, by decide, fun k hk => by
  have hk : 66 ≤ k ∧ k ≤ 72 := hk
  rcases (show k = 66 ∨ k = 67 ∨ k = 68 ∨ k = 69 ∨ k = 70 ∨ k = 71 ∨ k = 72 by omega) with rfl | rfl | rfl | rfl | rfl | rfl | rfl
  · exact ⟨by decide, (RX6, TX6, 8), rfl, by decide, Or.inl q293, rfl, by decide, (by first | exact trivial | rfl | exact ⟨_, rfl, Or.inl ⟨_, rfl⟩⟩ | exact ⟨_, rfl, Or.inr ⟨_, rfl⟩⟩)⟩
  · exact ⟨by decide, (RX7, TX7, 7), rfl, by decide, Or.inl q293, rfl, by decide, (by first | exact trivial | rfl | exact ⟨_, rfl, Or.inl ⟨_, rfl⟩⟩ | exact ⟨_, rfl, Or.inr ⟨_, rfl⟩⟩)⟩
  · exact ⟨by decide, (RX8, TX8, 7), rfl, by decide, Or.inl q293, rfl, by decide, (by first | exact trivial | rfl | exact ⟨_, rfl, Or.inl ⟨_, rfl⟩⟩ | exact ⟨_, rfl, Or.inr ⟨_, rfl⟩⟩)⟩
  · exact ⟨by decide, (RX9, TX9, 7), rfl, by decide, Or.inl q293, rfl, by decide, (by first | exact trivial | rfl | exact ⟨_, rfl, Or.inl ⟨_, rfl⟩⟩ | exact ⟨_, rfl, Or.inr ⟨_, rfl⟩⟩)⟩
  · exact ⟨by decide, (RX10, TX10, 8), rfl, by decide, Or.inl q293, rfl, by decide, (by first | exact trivial | rfl | exact ⟨_, rfl, Or.inl ⟨_, rfl⟩⟩ | exact ⟨_, rfl, Or.inr ⟨_, rfl⟩⟩)⟩
  · exact ⟨by decide, (RX11, TX11, 8), rfl, by decide, Or.inl q293, rfl, by decide, (by first | exact trivial | rfl | exact ⟨_, rfl, Or.inl ⟨_, rfl⟩⟩ | exact ⟨_, rfl, Or.inr ⟨_, rfl⟩⟩)⟩
  · exact ⟨by decide, (RX12, TX12, 7), rfl, by decide, Or.inl q293, rfl, by decide, (by first | exact trivial | rfl | exact ⟨_, rfl, Or.inl ⟨_, rfl⟩⟩ | exact ⟨_, rfl, Or.inr ⟨_, rfl⟩⟩)⟩⟩
theorem jg_X5_9_80 : jx_FG "LoopLane$Act" (9, 80, 5, 2, 6, 10, 3, 1) := ⟨by decide, by decide, fun k hk => by
  have hk : 66 ≤ k ∧ k ≤ 72 := hk
  rcases (show k = 66 ∨ k = 67 ∨ k = 68 ∨ k = 69 ∨ k = 70 ∨ k = 71 ∨ k = 72 by omega) with rfl | rfl | rfl | rfl | rfl | rfl | rfl
  · exact ⟨by decide, (RX6, TX6, 8), rfl, by decide, Or.inl q295, rfl, by decide, (by first | exact trivial | rfl | exact ⟨_, rfl, Or.inl ⟨_, rfl⟩⟩ | exact ⟨_, rfl, Or.inr ⟨_, rfl⟩⟩)⟩
  · exact ⟨by decide, (RX7, TX7, 7), rfl, by decide, Or.inl q295, rfl, by decide, (by first | exact trivial | rfl | exact ⟨_, rfl, Or.inl ⟨_, rfl⟩⟩ | exact ⟨_, rfl, Or.inr ⟨_, rfl⟩⟩)⟩
  · exact ⟨by decide, (RX8, TX8, 7), rfl, by decide, Or.inl q295, rfl, by decide, (by first | exact trivial | rfl | exact ⟨_, rfl, Or.inl ⟨_, rfl⟩⟩ | exact ⟨_, rfl, Or.inr ⟨_, rfl⟩⟩)⟩
  · exact ⟨by decide, (RX9, TX9, 7), rfl, by decide, Or.inl q295, rfl, by decide, (by first | exact trivial | rfl | exact ⟨_, rfl, Or.inl ⟨_, rfl⟩⟩ | exact ⟨_, rfl, Or.inr ⟨_, rfl⟩⟩)⟩
  · exact ⟨by decide, (RX10, TX10, 8), rfl, by decide, Or.inl q295, rfl, by decide, (by first | exact trivial | rfl | exact ⟨_, rfl, Or.inl ⟨_, rfl⟩⟩ | exact ⟨_, rfl, Or.inr ⟨_, rfl⟩⟩)⟩
  · exact ⟨by decide, (RX11, TX11, 8), rfl, by decide, Or.inl q295, rfl, by decide, (by first | exact trivial | rfl | exact ⟨_, rfl, Or.inl ⟨_, rfl⟩⟩ | exact ⟨_, rfl, Or.inr ⟨_, rfl⟩⟩)⟩
  · exact ⟨by decide, (RX12, TX12, 7), rfl, by decide, Or.inl q295, rfl, by decide, (by first | exact trivial | rfl | exact ⟨_, rfl, Or.inl ⟨_, rfl⟩⟩ | exact ⟨_, rfl, Or.inr ⟨_, rfl⟩⟩)⟩⟩
theorem jg_X5_15_80 : jx_FG "LoopLane$Act" (15, 80, 6, 2, 6, 10, 3, 2) := ⟨by decide, by decide, fun k hk => by
  have hk : 66 ≤ k ∧ k ≤ 72 := hk
  rcases (show k = 66 ∨ k = 67 ∨ k = 68 ∨ k = 69 ∨ k = 70 ∨ k = 71 ∨ k = 72 by omega) with rfl | rfl | rfl | rfl | rfl | rfl | rfl
  · exact ⟨by decide, (RX6, TX6, 8), rfl, by decide, Or.inl q297, rfl, by decide, (by first | exact trivial | rfl | exact ⟨_, rfl, Or.inl ⟨_, rfl⟩⟩ | exact ⟨_, rfl, Or.inr ⟨_, rfl⟩⟩)⟩
  · exact ⟨by decide, (RX7, TX7, 7), rfl, by decide, Or.inl q297, rfl, by decide, (by first | exact trivial | rfl | exact ⟨_, rfl, Or.inl ⟨_, rfl⟩⟩ | exact ⟨_, rfl, Or.inr ⟨_, rfl⟩⟩)⟩
  · exact ⟨by decide, (RX8, TX8, 7), rfl, by decide, Or.inl q297, rfl, by decide, (by first | exact trivial | rfl | exact ⟨_, rfl, Or.inl ⟨_, rfl⟩⟩ | exact ⟨_, rfl, Or.inr ⟨_, rfl⟩⟩)⟩
  · exact ⟨by decide, (RX9, TX9, 7), rfl, by decide, Or.inl q297, rfl, by decide, (by first | exact trivial | rfl | exact ⟨_, rfl, Or.inl ⟨_, rfl⟩⟩ | exact ⟨_, rfl, Or.inr ⟨_, rfl⟩⟩)⟩
  · exact ⟨by decide, (RX10, TX10, 8), rfl, by decide, Or.inl q297, rfl, by decide, (by first | exact trivial | rfl | exact ⟨_, rfl, Or.inl ⟨_, rfl⟩⟩ | exact ⟨_, rfl, Or.inr ⟨_, rfl⟩⟩)⟩
  · exact ⟨by decide, (RX11, TX11, 8), rfl, by decide, Or.inl q297, rfl, by decide, (by first | exact trivial | rfl | exact ⟨_, rfl, Or.inl ⟨_, rfl⟩⟩ | exact ⟨_, rfl, Or.inr ⟨_, rfl⟩⟩)⟩
  · exact ⟨by decide, (RX12, TX12, 7), rfl, by decide, Or.inl q297, rfl, by decide, (by first | exact trivial | rfl | exact ⟨_, rfl, Or.inl ⟨_, rfl⟩⟩ | exact ⟨_, rfl, Or.inr ⟨_, rfl⟩⟩)⟩⟩
theorem jg_X6_9_66 : jx_FG "LoopLane$Put" (9, 66, 7, 0, 1, 0, 0, 0) := ⟨by decide, by decide, fun k hk => by
  have hk : k = 66 := hk
  subst hk
  exact ⟨by decide, (RX6, TX6, 8), rfl, by decide, Or.inl q283, rfl, by decide, (by first | exact trivial | rfl | exact ⟨_, rfl, Or.inl ⟨_, rfl⟩⟩ | exact ⟨_, rfl, Or.inr ⟨_, rfl⟩⟩)⟩⟩
theorem jg_X10_9_70 : jx_FG "LoopLane$Fetch" (9, 70, 7, 0, 0, 0, 0, 0) := ⟨by decide, by decide, fun k hk => by
  have hk : k = 70 := hk
  subst hk
  exact ⟨by decide, (RX10, TX10, 8), rfl, by decide, Or.inl q360, rfl, by decide, (by first | exact trivial | rfl | exact ⟨_, rfl, Or.inl ⟨_, rfl⟩⟩ | exact ⟨_, rfl, Or.inr ⟨_, rfl⟩⟩)⟩⟩
theorem jg_X10_9_71 : jx_FG "LoopLane$Fetch" (9, 71, 7, 0, 0, 0, 0, 0) := ⟨by decide, by decide, fun k hk => by
  have hk : k = 71 := hk
  subst hk
  exact ⟨by decide, (RX11, TX11, 8), rfl, by decide, Or.inl q360, rfl, by decide, (by first | exact trivial | rfl | exact ⟨_, rfl, Or.inl ⟨_, rfl⟩⟩ | exact ⟨_, rfl, Or.inr ⟨_, rfl⟩⟩)⟩⟩
theorem jg_X10_9_81 : jx_FG "LoopLane$Fetch" (9, 81, 7, 0, 0, 0, 0, 0) := ⟨by decide, by decide, fun k hk => by
  have hk : k = 70 ∨ k = 71 := hk
  rcases hk with rfl | rfl
  · exact ⟨by decide, (RX10, TX10, 8), rfl, by decide, Or.inl q360, rfl, by decide, (by first | exact trivial | rfl | exact ⟨_, rfl, Or.inl ⟨_, rfl⟩⟩ | exact ⟨_, rfl, Or.inr ⟨_, rfl⟩⟩)⟩
  · exact ⟨by decide, (RX11, TX11, 8), rfl, by decide, Or.inl q360, rfl, by decide, (by first | exact trivial | rfl | exact ⟨_, rfl, Or.inl ⟨_, rfl⟩⟩ | exact ⟨_, rfl, Or.inr ⟨_, rfl⟩⟩)⟩⟩
theorem jg_X13_7_73 : jx_FG "LoopLaneModel" (7, 73, 0, 2, 6, 10, 16, 1) := ⟨by decide, by decide, fun k hk => by
  have hk : k = 73 := hk
  subst hk
  exact ⟨by decide, (RX13, TX13, 45), rfl, by decide, Or.inl q1139, rfl, by decide, (by first | exact trivial | rfl | exact ⟨_, rfl, Or.inl ⟨_, rfl⟩⟩ | exact ⟨_, rfl, Or.inr ⟨_, rfl⟩⟩)⟩⟩
theorem jg_X13_13_73 : jx_FG "LoopLaneModel" (13, 73, 1, 2, 6, 10, 16, 2) := ⟨by decide, by decide, fun k hk => by
  have hk : k = 73 := hk
  subst hk
  exact ⟨by decide, (RX13, TX13, 45), rfl, by decide, Or.inl q1140, rfl, by decide, (by first | exact trivial | rfl | exact ⟨_, rfl, Or.inl ⟨_, rfl⟩⟩ | exact ⟨_, rfl, Or.inr ⟨_, rfl⟩⟩)⟩⟩
theorem jg_X13_16_73 : jx_FG "LoopLaneModel" (16, 73, 2, 2, 6, 10, 16, 3) := ⟨by decide, by decide, fun k hk => by
  have hk : k = 73 := hk
  subst hk
  exact ⟨by decide, (RX13, TX13, 45), rfl, by decide, Or.inl q1141, rfl, by decide, (by first | exact trivial | rfl | exact ⟨_, rfl, Or.inl ⟨_, rfl⟩⟩ | exact ⟨_, rfl, Or.inr ⟨_, rfl⟩⟩)⟩⟩
theorem jg_X13_19_73 : jx_FG "LoopLaneModel" (19, 73, 3, 2, 6, 10, 16, 4) := ⟨by decide, by decide, fun k hk => by
  have hk : k = 73 := hk
  subst hk
  exact ⟨by decide, (RX13, TX13, 45), rfl, by decide, Or.inl q1142, rfl, by decide, (by first | exact trivial | rfl | exact ⟨_, rfl, Or.inl ⟨_, rfl⟩⟩ | exact ⟨_, rfl, Or.inr ⟨_, rfl⟩⟩)⟩⟩
theorem jg_X13_22_73 : jx_FG "LoopLaneModel" (22, 73, 4, 2, 6, 10, 16, 5) := ⟨by decide, by decide, fun k hk => by
  have hk : k = 73 := hk
  subst hk
  exact ⟨by decide, (RX13, TX13, 45), rfl, by decide, Or.inl q1143, rfl, by decide, (by first | exact trivial | rfl | exact ⟨_, rfl, Or.inl ⟨_, rfl⟩⟩ | exact ⟨_, rfl, Or.inr ⟨_, rfl⟩⟩)⟩⟩
theorem jg_X13_25_73 : jx_FG "LoopLaneModel" (25, 73, 5, 2, 6, 10, 48, 6) := ⟨by decide, by decide, fun k hk => by
  have hk : k = 73 := hk
  subst hk
  exact ⟨by decide, (RX13, TX13, 45), rfl, by decide, Or.inl q1144, rfl, by decide, (by first | exact trivial | rfl | exact ⟨_, rfl, Or.inl ⟨_, rfl⟩⟩ | exact ⟨_, rfl, Or.inr ⟨_, rfl⟩⟩)⟩⟩
theorem jg_X13_28_73 : jx_FG "LoopLaneModel" (28, 73, 6, 2, 6, 10, 48, 7) := ⟨by decide, by decide, fun k hk => by
  have hk : k = 73 := hk
  subst hk
  exact ⟨by decide, (RX13, TX13, 45), rfl, by decide, Or.inl q1145, rfl, by decide, (by first | exact trivial | rfl | exact ⟨_, rfl, Or.inl ⟨_, rfl⟩⟩ | exact ⟨_, rfl, Or.inr ⟨_, rfl⟩⟩)⟩⟩
theorem jg_X13_31_73 : jx_FG "LoopLaneModel" (31, 73, 7, 2, 6, 11, 16, 8) := ⟨by decide, by decide, fun k hk => by
  have hk : k = 73 := hk
  subst hk
  exact ⟨by decide, (RX13, TX13, 45), rfl, by decide, Or.inl q1146, rfl, by decide, (by first | exact trivial | rfl | exact ⟨_, rfl, Or.inl ⟨_, rfl⟩⟩ | exact ⟨_, rfl, Or.inr ⟨_, rfl⟩⟩)⟩⟩
theorem jg_X13_35_73 : jx_FG "LoopLaneModel" (35, 73, 8, 2, 6, 11, 16, 9) := ⟨by decide, by decide, fun k hk => by
  have hk : k = 73 := hk
  subst hk
  exact ⟨by decide, (RX13, TX13, 45), rfl, by decide, Or.inl q1147, rfl, by decide, (by first | exact trivial | rfl | exact ⟨_, rfl, Or.inl ⟨_, rfl⟩⟩ | exact ⟨_, rfl, Or.inr ⟨_, rfl⟩⟩)⟩⟩
theorem jg_X13_118_73 : jx_FG "LoopLaneModel" (118, 73, 9, 0, 0, 0, 0, 0) := ⟨by decide, by decide, fun k hk => by
  have hk : k = 73 := hk
  subst hk
  exact ⟨by decide, (RX13, TX13, 45), rfl, by decide, Or.inl q1148, rfl, by decide, (by first | exact trivial | rfl | exact ⟨_, rfl, Or.inl ⟨_, rfl⟩⟩ | exact ⟨_, rfl, Or.inr ⟨_, rfl⟩⟩)⟩⟩
theorem jg_X13_38_73 : jx_FG "LoopLaneModel" (38, 73, 10, 2, 6, 10, 6, 10) := ⟨by decide, by decide, fun k hk => by
  have hk : k = 73 := hk
  subst hk
  exact ⟨by decide, (RX13, TX13, 45), rfl, by decide, Or.inl q1149, rfl, by decide, (by first | exact trivial | rfl | exact ⟨_, rfl, Or.inl ⟨_, rfl⟩⟩ | exact ⟨_, rfl, Or.inr ⟨_, rfl⟩⟩)⟩⟩
theorem jg_X13_41_73 : jx_FG "LoopLaneModel" (41, 73, 11, 2, 6, 10, 40, 11) := ⟨by decide, by decide, fun k hk => by
  have hk : k = 73 := hk
  subst hk
  exact ⟨by decide, (RX13, TX13, 45), rfl, by decide, Or.inl q1150, rfl, by decide, (by first | exact trivial | rfl | exact ⟨_, rfl, Or.inl ⟨_, rfl⟩⟩ | exact ⟨_, rfl, Or.inr ⟨_, rfl⟩⟩)⟩⟩
theorem jg_X13_44_73 : jx_FG "LoopLaneModel" (44, 73, 12, 2, 6, 10, 40, 12) := ⟨by decide, by decide, fun k hk => by
  have hk : k = 73 := hk
  subst hk
  exact ⟨by decide, (RX13, TX13, 45), rfl, by decide, Or.inl q1151, rfl, by decide, (by first | exact trivial | rfl | exact ⟨_, rfl, Or.inl ⟨_, rfl⟩⟩ | exact ⟨_, rfl, Or.inr ⟨_, rfl⟩⟩)⟩⟩
theorem jg_X13_47_73 : jx_FG "LoopLaneModel" (47, 73, 13, 2, 6, 10, 40, 13) := ⟨by decide, by decide, fun k hk => by
  have hk : k = 73 := hk
  subst hk
  exact ⟨by decide, (RX13, TX13, 45), rfl, by decide, Or.inl q1152, rfl, by decide, (by first | exact trivial | rfl | exact ⟨_, rfl, Or.inl ⟨_, rfl⟩⟩ | exact ⟨_, rfl, Or.inr ⟨_, rfl⟩⟩)⟩⟩
theorem jg_X13_50_73 : jx_FG "LoopLaneModel" (50, 73, 14, 2, 6, 10, 40, 14) := ⟨by decide, by decide, fun k hk => by
  have hk : k = 73 := hk
  subst hk
  exact ⟨by decide, (RX13, TX13, 45), rfl, by decide, Or.inl q1153, rfl, by decide, (by first | exact trivial | rfl | exact ⟨_, rfl, Or.inl ⟨_, rfl⟩⟩ | exact ⟨_, rfl, Or.inr ⟨_, rfl⟩⟩)⟩⟩
theorem jg_X13_172_73 : jx_FG "LoopLaneModel" (172, 73, 15, 0, 0, 0, 0, 0) := ⟨by decide, by decide, fun k hk => by
  have hk : k = 73 := hk
  subst hk
  exact ⟨by decide, (RX13, TX13, 45), rfl, by decide, Or.inl q1154, rfl, by decide, (by first | exact trivial | rfl | exact ⟨_, rfl, Or.inl ⟨_, rfl⟩⟩ | exact ⟨_, rfl, Or.inr ⟨_, rfl⟩⟩)⟩⟩
theorem jg_X13_53_73 : jx_FG "LoopLaneModel" (53, 73, 16, 2, 6, 10, 704, 15) := ⟨by decide, by decide, fun k hk => by
  have hk : k = 73 := hk
  subst hk
  exact ⟨by decide, (RX13, TX13, 45), rfl, by decide, Or.inl q1155, rfl, by decide, (by first | exact trivial | rfl | exact ⟨_, rfl, Or.inl ⟨_, rfl⟩⟩ | exact ⟨_, rfl, Or.inr ⟨_, rfl⟩⟩)⟩⟩
theorem jg_X13_56_73 : jx_FG "LoopLaneModel" (56, 73, 17, 2, 6, 10, 704, 16) := ⟨by decide, by decide, fun k hk => by
  have hk : k = 73 := hk
  subst hk
  exact ⟨by decide, (RX13, TX13, 45), rfl, by decide, Or.inl q1156, rfl, by decide, (by first | exact trivial | rfl | exact ⟨_, rfl, Or.inl ⟨_, rfl⟩⟩ | exact ⟨_, rfl, Or.inr ⟨_, rfl⟩⟩)⟩⟩
theorem jg_X13_59_73 : jx_FG "LoopLaneModel" (59, 73, 18, 2, 6, 10, 704, 17) := ⟨by decide, by decide, fun k hk => by
  have hk : k = 73 := hk
  subst hk
  exact ⟨by decide, (RX13, TX13, 45), rfl, by decide, Or.inl q1157, rfl, by decide, (by first | exact trivial | rfl | exact ⟨_, rfl, Or.inl ⟨_, rfl⟩⟩ | exact ⟨_, rfl, Or.inr ⟨_, rfl⟩⟩)⟩⟩
theorem jg_X13_62_73 : jx_FG "LoopLaneModel" (62, 73, 19, 2, 6, 10, 704, 18) := ⟨by decide, by decide, fun k hk => by
  have hk : k = 73 := hk
  subst hk
  exact ⟨by decide, (RX13, TX13, 45), rfl, by decide, Or.inl q1158, rfl, by decide, (by first | exact trivial | rfl | exact ⟨_, rfl, Or.inl ⟨_, rfl⟩⟩ | exact ⟨_, rfl, Or.inr ⟨_, rfl⟩⟩)⟩⟩
theorem jg_X13_180_73 : jx_FG "LoopLaneModel" (180, 73, 20, 0, 0, 0, 0, 0) := ⟨by decide, by decide, fun k hk => by
  have hk : k = 73 := hk
  subst hk
  exact ⟨by decide, (RX13, TX13, 45), rfl, by decide, Or.inl q1159, rfl, by decide, (by first | exact trivial | rfl | exact ⟨_, rfl, Or.inl ⟨_, rfl⟩⟩ | exact ⟨_, rfl, Or.inr ⟨_, rfl⟩⟩)⟩⟩
theorem jg_X13_65_73 : jx_FG "LoopLaneModel" (65, 73, 21, 2, 6, 11, 320, 19) := ⟨by decide, by decide, fun k hk => by
  have hk : k = 73 := hk
  subst hk
  exact ⟨by decide, (RX13, TX13, 45), rfl, by decide, Or.inl q1160, rfl, by decide, (by first | exact trivial | rfl | exact ⟨_, rfl, Or.inl ⟨_, rfl⟩⟩ | exact ⟨_, rfl, Or.inr ⟨_, rfl⟩⟩)⟩⟩
theorem jg_X13_68_73 : jx_FG "LoopLaneModel" (68, 73, 22, 2, 6, 11, 320, 20) := ⟨by decide, by decide, fun k hk => by
  have hk : k = 73 := hk
  subst hk
  exact ⟨by decide, (RX13, TX13, 45), rfl, by decide, Or.inl q1161, rfl, by decide, (by first | exact trivial | rfl | exact ⟨_, rfl, Or.inl ⟨_, rfl⟩⟩ | exact ⟨_, rfl, Or.inr ⟨_, rfl⟩⟩)⟩⟩
theorem jg_X13_71_73 : jx_FG "LoopLaneModel" (71, 73, 23, 2, 6, 10, 8, 21) := ⟨by decide, by decide, fun k hk => by
  have hk : k = 73 := hk
  subst hk
  exact ⟨by decide, (RX13, TX13, 45), rfl, by decide, Or.inl q1162, rfl, by decide, (by first | exact trivial | rfl | exact ⟨_, rfl, Or.inl ⟨_, rfl⟩⟩ | exact ⟨_, rfl, Or.inr ⟨_, rfl⟩⟩)⟩⟩
theorem jg_X13_74_73 : jx_FG "LoopLaneModel" (74, 73, 24, 2, 6, 12, 8, 22) := ⟨by decide, by decide, fun k hk => by
  have hk : k = 73 := hk
  subst hk
  exact ⟨by decide, (RX13, TX13, 45), rfl, by decide, Or.inl q1163, rfl, by decide, (by first | exact trivial | rfl | exact ⟨_, rfl, Or.inl ⟨_, rfl⟩⟩ | exact ⟨_, rfl, Or.inr ⟨_, rfl⟩⟩)⟩⟩
theorem jg_X13_78_73 : jx_FG "LoopLaneModel" (78, 73, 25, 2, 6, 10, 12, 23) := ⟨by decide, by decide, fun k hk => by
  have hk : k = 73 := hk
  subst hk
  exact ⟨by decide, (RX13, TX13, 45), rfl, by decide, Or.inl q1164, rfl, by decide, (by first | exact trivial | rfl | exact ⟨_, rfl, Or.inl ⟨_, rfl⟩⟩ | exact ⟨_, rfl, Or.inr ⟨_, rfl⟩⟩)⟩⟩
theorem jg_X13_114_73 : jx_FG "LoopLaneModel" (114, 73, 26, 0, 0, 0, 0, 0) := ⟨by decide, by decide, fun k hk => by
  have hk : k = 73 := hk
  subst hk
  exact ⟨by decide, (RX13, TX13, 45), rfl, by decide, Or.inl q1165, rfl, by decide, (by first | exact trivial | rfl | exact ⟨_, rfl, Or.inl ⟨_, rfl⟩⟩ | exact ⟨_, rfl, Or.inr ⟨_, rfl⟩⟩)⟩⟩
theorem jg_X13_121_73 : jx_FG "LoopLaneModel" (121, 73, 27, 0, 0, 0, 0, 0) := ⟨by decide, by decide, fun k hk => by
  have hk : k = 73 := hk
  subst hk
  exact ⟨by decide, (RX13, TX13, 45), rfl, by decide, Or.inl q1166, rfl, by decide, (by first | exact trivial | rfl | exact ⟨_, rfl, Or.inl ⟨_, rfl⟩⟩ | exact ⟨_, rfl, Or.inr ⟨_, rfl⟩⟩)⟩⟩
theorem jg_X13_81_73 : jx_FG "LoopLaneModel" (81, 73, 28, 2, 6, 10, 16, 24) := ⟨by decide, by decide, fun k hk => by
  have hk : k = 73 := hk
  subst hk
  exact ⟨by decide, (RX13, TX13, 45), rfl, by decide, Or.inl q1167, rfl, by decide, (by first | exact trivial | rfl | exact ⟨_, rfl, Or.inl ⟨_, rfl⟩⟩ | exact ⟨_, rfl, Or.inr ⟨_, rfl⟩⟩)⟩⟩
theorem jg_X13_84_73 : jx_FG "LoopLaneModel" (84, 73, 29, 2, 6, 10, 16, 25) := ⟨by decide, by decide, fun k hk => by
  have hk : k = 73 := hk
  subst hk
  exact ⟨by decide, (RX13, TX13, 45), rfl, by decide, Or.inl q1168, rfl, by decide, (by first | exact trivial | rfl | exact ⟨_, rfl, Or.inl ⟨_, rfl⟩⟩ | exact ⟨_, rfl, Or.inr ⟨_, rfl⟩⟩)⟩⟩
theorem jg_X13_87_73 : jx_FG "LoopLaneModel" (87, 73, 30, 2, 6, 10, 16, 26) := ⟨by decide, by decide, fun k hk => by
  have hk : k = 73 := hk
  subst hk
  exact ⟨by decide, (RX13, TX13, 45), rfl, by decide, Or.inl q1169, rfl, by decide, (by first | exact trivial | rfl | exact ⟨_, rfl, Or.inl ⟨_, rfl⟩⟩ | exact ⟨_, rfl, Or.inr ⟨_, rfl⟩⟩)⟩⟩
theorem jg_X13_90_73 : jx_FG "LoopLaneModel" (90, 73, 31, 2, 6, 10, 16, 27) := ⟨by decide, by decide, fun k hk => by
  have hk : k = 73 := hk
  subst hk
  exact ⟨by decide, (RX13, TX13, 45), rfl, by decide, Or.inl q1170, rfl, by decide, (by first | exact trivial | rfl | exact ⟨_, rfl, Or.inl ⟨_, rfl⟩⟩ | exact ⟨_, rfl, Or.inr ⟨_, rfl⟩⟩)⟩⟩
theorem jg_X13_221_73 : jx_FG "LoopLaneModel" (221, 73, 32, 0, 0, 0, 0, 0) := ⟨by decide, by decide, fun k hk => by
  have hk : k = 73 := hk
  subst hk
  exact ⟨by decide, (RX13, TX13, 45), rfl, by decide, Or.inl q1171, rfl, by decide, (by first | exact trivial | rfl | exact ⟨_, rfl, Or.inl ⟨_, rfl⟩⟩ | exact ⟨_, rfl, Or.inr ⟨_, rfl⟩⟩)⟩⟩
theorem jg_X13_93_73 : jx_FG "LoopLaneModel" (93, 73, 33, 2, 6, 10, 16, 28) := ⟨by decide, by decide, fun k hk => by
  have hk : k = 73 := hk
  subst hk
  exact ⟨by decide, (RX13, TX13, 45), rfl, by decide, Or.inl q1172, rfl, by decide, (by first | exact trivial | rfl | exact ⟨_, rfl, Or.inl ⟨_, rfl⟩⟩ | exact ⟨_, rfl, Or.inr ⟨_, rfl⟩⟩)⟩⟩
theorem jg_X13_96_73 : jx_FG "LoopLaneModel" (96, 73, 34, 2, 6, 10, 16, 29) := ⟨by decide, by decide, fun k hk => by
  have hk : k = 73 := hk
  subst hk
  exact ⟨by decide, (RX13, TX13, 45), rfl, by decide, Or.inl q1173, rfl, by decide, (by first | exact trivial | rfl | exact ⟨_, rfl, Or.inl ⟨_, rfl⟩⟩ | exact ⟨_, rfl, Or.inr ⟨_, rfl⟩⟩)⟩⟩
theorem jg_X13_99_73 : jx_FG "LoopLaneModel" (99, 73, 35, 2, 6, 10, 60, 30) := ⟨by decide, by decide, fun k hk => by
  have hk : k = 73 := hk
  subst hk
  exact ⟨by decide, (RX13, TX13, 45), rfl, by decide, Or.inl q1174, rfl, by decide, (by first | exact trivial | rfl | exact ⟨_, rfl, Or.inl ⟨_, rfl⟩⟩ | exact ⟨_, rfl, Or.inr ⟨_, rfl⟩⟩)⟩⟩
theorem jg_X13_102_73 : jx_FG "LoopLaneModel" (102, 73, 36, 2, 6, 10, 6, 31) := ⟨by decide, by decide, fun k hk => by
  have hk : k = 73 := hk
  subst hk
  exact ⟨by decide, (RX13, TX13, 45), rfl, by decide, Or.inl q1175, rfl, by decide, (by first | exact trivial | rfl | exact ⟨_, rfl, Or.inl ⟨_, rfl⟩⟩ | exact ⟨_, rfl, Or.inr ⟨_, rfl⟩⟩)⟩⟩
theorem jg_X13_105_73 : jx_FG "LoopLaneModel" (105, 73, 37, 2, 6, 11, 3216, 32) := ⟨by decide, by decide, fun k hk => by
  have hk : k = 73 := hk
  subst hk
  exact ⟨by decide, (RX13, TX13, 45), rfl, by decide, Or.inl q1176, rfl, by decide, (by first | exact trivial | rfl | exact ⟨_, rfl, Or.inl ⟨_, rfl⟩⟩ | exact ⟨_, rfl, Or.inr ⟨_, rfl⟩⟩)⟩⟩
theorem jg_X13_258_73 : jx_FG "LoopLaneModel" (258, 73, 38, 0, 0, 0, 0, 0) := ⟨by decide, by decide, fun k hk => by
  have hk : k = 73 := hk
  subst hk
  exact ⟨by decide, (RX13, TX13, 45), rfl, by decide, Or.inl q1177, rfl, by decide, (by first | exact trivial | rfl | exact ⟨_, rfl, Or.inl ⟨_, rfl⟩⟩ | exact ⟨_, rfl, Or.inr ⟨_, rfl⟩⟩)⟩⟩
theorem jg_X13_261_73 : jx_FG "LoopLaneModel" (261, 73, 39, 0, 0, 0, 0, 0) := ⟨by decide, by decide, fun k hk => by
  have hk : k = 73 := hk
  subst hk
  exact ⟨by decide, (RX13, TX13, 45), rfl, by decide, Or.inl q1178, rfl, by decide, (by first | exact trivial | rfl | exact ⟨_, rfl, Or.inl ⟨_, rfl⟩⟩ | exact ⟨_, rfl, Or.inr ⟨_, rfl⟩⟩)⟩⟩
theorem jg_X13_264_73 : jx_FG "LoopLaneModel" (264, 73, 40, 0, 0, 0, 0, 0) := ⟨by decide, by decide, fun k hk => by
  have hk : k = 73 := hk
  subst hk
  exact ⟨by decide, (RX13, TX13, 45), rfl, by decide, Or.inl q1179, rfl, by decide, (by first | exact trivial | rfl | exact ⟨_, rfl, Or.inl ⟨_, rfl⟩⟩ | exact ⟨_, rfl, Or.inr ⟨_, rfl⟩⟩)⟩⟩
theorem jg_X13_267_73 : jx_FG "LoopLaneModel" (267, 73, 41, 0, 0, 0, 0, 0) := ⟨by decide, by decide, fun k hk => by
  have hk : k = 73 := hk
  subst hk
  exact ⟨by decide, (RX13, TX13, 45), rfl, by decide, Or.inl q1180, rfl, by decide, (by first | exact trivial | rfl | exact ⟨_, rfl, Or.inl ⟨_, rfl⟩⟩ | exact ⟨_, rfl, Or.inr ⟨_, rfl⟩⟩)⟩⟩
theorem jg_X13_270_73 : jx_FG "LoopLaneModel" (270, 73, 42, 0, 0, 0, 0, 0) := ⟨by decide, by decide, fun k hk => by
  have hk : k = 73 := hk
  subst hk
  exact ⟨by decide, (RX13, TX13, 45), rfl, by decide, Or.inl q1181, rfl, by decide, (by first | exact trivial | rfl | exact ⟨_, rfl, Or.inl ⟨_, rfl⟩⟩ | exact ⟨_, rfl, Or.inr ⟨_, rfl⟩⟩)⟩⟩
theorem jg_X13_273_73 : jx_FG "LoopLaneModel" (273, 73, 43, 0, 0, 0, 0, 0) := ⟨by decide, by decide, fun k hk => by
  have hk : k = 73 := hk
  subst hk
  exact ⟨by decide, (RX13, TX13, 45), rfl, by decide, Or.inl q1182, rfl, by decide, (by first | exact trivial | rfl | exact ⟨_, rfl, Or.inl ⟨_, rfl⟩⟩ | exact ⟨_, rfl, Or.inr ⟨_, rfl⟩⟩)⟩⟩
theorem jg_X13_276_73 : jx_FG "LoopLaneModel" (276, 73, 44, 0, 0, 0, 0, 0) := ⟨by decide, by decide, fun k hk => by
  have hk : k = 73 := hk
  subst hk
  exact ⟨by decide, (RX13, TX13, 45), rfl, by decide, Or.inl q1183, rfl, by decide, (by first | exact trivial | rfl | exact ⟨_, rfl, Or.inl ⟨_, rfl⟩⟩ | exact ⟨_, rfl, Or.inr ⟨_, rfl⟩⟩)⟩⟩
def jo_X0 : jx_O := ("LoopLane", [(273, 62, 0, 0, 2, 0, 0, 0), (267, 61, 0, 2, 6, 31, 8, 1), (213, 63, 0, 0, 0, 0, 0, 0), (216, 63, 1, 0, 0, 0, 0, 0), (219, 63, 2, 0, 0, 0, 0, 0), (201, 63, 3, 0, 0, 0, 0, 0), (204, 63, 4, 0, 0, 0, 0, 0), (231, 63, 5, 1, 0, 0, 0, 0), (222, 63, 6, 0, 0, 0, 0, 0), (257, 63, 7, 2, 6, 11, 16, 1), (417, 64, 6, 2, 0, 0, 0, 0), (392, 66, 7, 0, 1, 0, 0, 0), (59, 80, 0, 0, 0, 0, 0, 0), (109, 80, 1, 0, 0, 0, 0, 0), (126, 80, 2, 0, 0, 0, 0, 0), (197, 80, 3, 0, 1, 0, 0, 0), (55, 80, 4, 0, 0, 0, 0, 0), (56, 80, 5, 2, 6, 10, 3, 1), (62, 80, 6, 2, 6, 10, 3, 2), (423, 70, 7, 0, 0, 0, 0, 0), (423, 71, 7, 0, 0, 0, 0, 0), (423, 81, 7, 0, 0, 0, 0, 0), (7, 60, 0, 2, 6, 30, 12, 1), (1, 60, 1, 2, 6, 10, 12, 2), (11, 60, 2, 0, 2, 0, 0, 0), (181, 60, 3, 2, 6, 61, 0, 3), (31, 60, 4, 2, 6, 32, 16, 13), (41, 60, 5, 0, 0, 0, 0, 0), (320, 60, 6, 2, 6, 33, 16, 14), (326, 60, 7, 2, 6, 34, 16, 15), (332, 60, 8, 2, 6, 35, 16, 16), (338, 60, 9, 2, 6, 36, 16, 17), (344, 60, 10, 2, 6, 37, 16, 18), (350, 60, 11, 2, 6, 38, 16, 19), (356, 60, 12, 2, 6, 39, 16, 20), (115, 60, 13, 2, 6, 10, 6, 21), (78, 60, 14, 2, 6, 10, 40, 22), (81, 60, 15, 2, 6, 10, 40, 23), (84, 60, 16, 2, 6, 10, 40, 24), (87, 60, 17, 2, 6, 10, 40, 25), (75, 60, 18, 0, 0, 0, 0, 0), (15, 60, 19, 2, 6, 10, 900, 26), (22, 60, 20, 2, 6, 10, 900, 27), (25, 60, 21, 2, 6, 10, 900, 28), (28, 60, 22, 2, 6, 10, 900, 29), (18, 60, 23, 0, 0, 0, 0, 0), (72, 60, 24, 0, 0, 0, 0, 0), (161, 60, 25, 1, 0, 0, 0, 0), (152, 60, 26, 0, 0, 0, 0, 0), (158, 60, 27, 2, 6, 10, 16, 30), (155, 60, 28, 2, 6, 10, 16, 31), (360, 60, 29, 2, 6, 10, 16, 32), (129, 60, 30, 0, 0, 0, 0, 0), (100, 60, 31, 2, 6, 10, 16, 33), (149, 60, 32, 2, 6, 10, 16, 34), (132, 60, 33, 2, 6, 10, 360, 35), (135, 60, 34, 0, 0, 0, 0, 0), (138, 60, 35, 1, 0, 0, 0, 0), (96, 60, 36, 2, 6, 10, 256, 36), (168, 60, 37, 0, 6, 63, 0, 37), (293, 60, 38, 0, 6, 63, 0, 39), (303, 60, 39, 2, 6, 63, 0, 41), (177, 60, 40, 2, 6, 11, 3200, 43), (225, 60, 41, 2, 6, 11, 16000, 44), (228, 60, 42, 2, 6, 10, 16, 45), (238, 60, 43, 2, 6, 10, 16, 46), (286, 60, 44, 2, 6, 11, 320, 47), (300, 60, 45, 2, 6, 11, 320, 48), (364, 60, 46, 2, 6, 10, 6, 49)], [(99, -1000000)], [(399, 3), (382, 4), (376, 15), (420, 7), (429, 5), (431, 12), (433, 255), (435, -50), (437, 50), (487, -11), (489, -2)])
theorem jo_X0_ok : jx_OK jo_X0 := ⟨List.forall_mem_cons.mpr ⟨jg_X0_273_62, List.forall_mem_cons.mpr ⟨jg_X0_267_61, List.forall_mem_cons.mpr ⟨jg_X0_213_63, List.forall_mem_cons.mpr ⟨jg_X0_216_63, List.forall_mem_cons.mpr ⟨jg_X0_219_63, List.forall_mem_cons.mpr ⟨jg_X0_201_63, List.forall_mem_cons.mpr ⟨jg_X0_204_63, List.forall_mem_cons.mpr ⟨jg_X0_231_63, List.forall_mem_cons.mpr ⟨jg_X0_222_63, List.forall_mem_cons.mpr ⟨jg_X0_257_63, List.forall_mem_cons.mpr ⟨jg_X0_417_64, List.forall_mem_cons.mpr ⟨jg_X0_392_66, List.forall_mem_cons.mpr ⟨jg_X0_59_80, List.forall_mem_cons.mpr ⟨jg_X0_109_80, List.forall_mem_cons.mpr ⟨jg_X0_126_80, List.forall_mem_cons.mpr ⟨jg_X0_197_80, List.forall_mem_cons.mpr ⟨jg_X0_55_80, List.forall_mem_cons.mpr ⟨jg_X0_56_80, List.forall_mem_cons.mpr ⟨jg_X0_62_80, List.forall_mem_cons.mpr ⟨jg_X0_423_70, List.forall_mem_cons.mpr ⟨jg_X0_423_71, List.forall_mem_cons.mpr ⟨jg_X0_423_81, List.forall_mem_cons.mpr ⟨jg_X0_7_60, List.forall_mem_cons.mpr ⟨jg_X0_1_60, List.forall_mem_cons.mpr ⟨jg_X0_11_60, List.forall_mem_cons.mpr ⟨jg_X0_181_60, List.forall_mem_cons.mpr ⟨jg_X0_31_60, List.forall_mem_cons.mpr ⟨jg_X0_41_60, List.forall_mem_cons.mpr ⟨jg_X0_320_60, List.forall_mem_cons.mpr ⟨jg_X0_326_60, List.forall_mem_cons.mpr ⟨jg_X0_332_60, List.forall_mem_cons.mpr ⟨jg_X0_338_60, List.forall_mem_cons.mpr ⟨jg_X0_344_60, List.forall_mem_cons.mpr ⟨jg_X0_350_60, List.forall_mem_cons.mpr ⟨jg_X0_356_60, List.forall_mem_cons.mpr ⟨jg_X0_115_60, List.forall_mem_cons.mpr ⟨jg_X0_78_60, List.forall_mem_cons.mpr ⟨jg_X0_81_60, List.forall_mem_cons.mpr ⟨jg_X0_84_60, List.forall_mem_cons.mpr ⟨jg_X0_87_60, List.forall_mem_cons.mpr ⟨jg_X0_75_60, List.forall_mem_cons.mpr ⟨jg_X0_15_60, List.forall_mem_cons.mpr ⟨jg_X0_22_60, List.forall_mem_cons.mpr ⟨jg_X0_25_60, List.forall_mem_cons.mpr ⟨jg_X0_28_60, List.forall_mem_cons.mpr ⟨jg_X0_18_60, List.forall_mem_cons.mpr ⟨jg_X0_72_60, List.forall_mem_cons.mpr ⟨jg_X0_161_60, List.forall_mem_cons.mpr ⟨jg_X0_152_60, List.forall_mem_cons.mpr ⟨jg_X0_158_60, List.forall_mem_cons.mpr ⟨jg_X0_155_60, List.forall_mem_cons.mpr ⟨jg_X0_360_60, List.forall_mem_cons.mpr ⟨jg_X0_129_60, List.forall_mem_cons.mpr ⟨jg_X0_100_60, List.forall_mem_cons.mpr ⟨jg_X0_149_60, List.forall_mem_cons.mpr ⟨jg_X0_132_60, List.forall_mem_cons.mpr ⟨jg_X0_135_60, List.forall_mem_cons.mpr ⟨jg_X0_138_60, List.forall_mem_cons.mpr ⟨jg_X0_96_60, List.forall_mem_cons.mpr ⟨jg_X0_168_60, List.forall_mem_cons.mpr ⟨jg_X0_293_60, List.forall_mem_cons.mpr ⟨jg_X0_303_60, List.forall_mem_cons.mpr ⟨jg_X0_177_60, List.forall_mem_cons.mpr ⟨jg_X0_225_60, List.forall_mem_cons.mpr ⟨jg_X0_228_60, List.forall_mem_cons.mpr ⟨jg_X0_238_60, List.forall_mem_cons.mpr ⟨jg_X0_286_60, List.forall_mem_cons.mpr ⟨jg_X0_300_60, List.forall_mem_cons.mpr ⟨jg_X0_364_60, fun _ h => absurd h List.not_mem_nil⟩⟩⟩⟩⟩⟩⟩⟩⟩⟩⟩⟩⟩⟩⟩⟩⟩⟩⟩⟩⟩⟩⟩⟩⟩⟩⟩⟩⟩⟩⟩⟩⟩⟩⟩⟩⟩⟩⟩⟩⟩⟩⟩⟩⟩⟩⟩⟩⟩⟩⟩⟩⟩⟩⟩⟩⟩⟩⟩⟩⟩⟩⟩⟩⟩⟩⟩⟩⟩, List.forall_mem_cons.mpr ⟨q903, fun _ h => absurd h List.not_mem_nil⟩, List.forall_mem_cons.mpr ⟨q641, List.forall_mem_cons.mpr ⟨q653, List.forall_mem_cons.mpr ⟨q658, List.forall_mem_cons.mpr ⟨q679, List.forall_mem_cons.mpr ⟨q705, List.forall_mem_cons.mpr ⟨q706, List.forall_mem_cons.mpr ⟨q707, List.forall_mem_cons.mpr ⟨q720, List.forall_mem_cons.mpr ⟨q721, List.forall_mem_cons.mpr ⟨q1123, List.forall_mem_cons.mpr ⟨q1124, fun _ h => absurd h List.not_mem_nil⟩⟩⟩⟩⟩⟩⟩⟩⟩⟩⟩⟩
theorem jf_X0 : jx_lk jo_X0.2.1 273 62 = some (0, 0, 2, 0, 0, 0) ∧ jx_lk jo_X0.2.1 267 61 = some (0, 2, 6, 31, 8, 1) ∧ jx_lk jo_X0.2.1 213 63 = some (0, 0, 0, 0, 0, 0) ∧ jx_lk jo_X0.2.1 216 63 = some (1, 0, 0, 0, 0, 0) ∧ jx_lk jo_X0.2.1 219 63 = some (2, 0, 0, 0, 0, 0) ∧ jx_lk jo_X0.2.1 201 63 = some (3, 0, 0, 0, 0, 0) ∧ jx_lk jo_X0.2.1 204 63 = some (4, 0, 0, 0, 0, 0) ∧ jx_lk jo_X0.2.1 231 63 = some (5, 1, 0, 0, 0, 0) ∧ jx_lk jo_X0.2.1 222 63 = some (6, 0, 0, 0, 0, 0) ∧ jx_lk jo_X0.2.1 257 63 = some (7, 2, 6, 11, 16, 1) ∧ jx_lk jo_X0.2.1 417 64 = some (6, 2, 0, 0, 0, 0) ∧ jx_lk jo_X0.2.1 392 66 = some (7, 0, 1, 0, 0, 0) ∧ jx_lk jo_X0.2.1 59 80 = some (0, 0, 0, 0, 0, 0) ∧ jx_lk jo_X0.2.1 109 80 = some (1, 0, 0, 0, 0, 0) ∧ jx_lk jo_X0.2.1 126 80 = some (2, 0, 0, 0, 0, 0) ∧ jx_lk jo_X0.2.1 197 80 = some (3, 0, 1, 0, 0, 0) ∧ jx_lk jo_X0.2.1 55 80 = some (4, 0, 0, 0, 0, 0) ∧ jx_lk jo_X0.2.1 56 80 = some (5, 2, 6, 10, 3, 1) ∧ jx_lk jo_X0.2.1 62 80 = some (6, 2, 6, 10, 3, 2) ∧ jx_lk jo_X0.2.1 423 70 = some (7, 0, 0, 0, 0, 0) ∧ jx_lk jo_X0.2.1 423 71 = some (7, 0, 0, 0, 0, 0) ∧ jx_lk jo_X0.2.1 423 81 = some (7, 0, 0, 0, 0, 0) ∧ jx_lk jo_X0.2.1 7 60 = some (0, 2, 6, 30, 12, 1) ∧ jx_lk jo_X0.2.1 1 60 = some (1, 2, 6, 10, 12, 2) ∧ jx_lk jo_X0.2.1 11 60 = some (2, 0, 2, 0, 0, 0) ∧ jx_lk jo_X0.2.1 181 60 = some (3, 2, 6, 61, 0, 3) ∧ jx_lk jo_X0.2.1 31 60 = some (4, 2, 6, 32, 16, 13) ∧ jx_lk jo_X0.2.1 41 60 = some (5, 0, 0, 0, 0, 0) ∧ jx_lk jo_X0.2.1 320 60 = some (6, 2, 6, 33, 16, 14) ∧ jx_lk jo_X0.2.1 326 60 = some (7, 2, 6, 34, 16, 15) ∧ jx_lk jo_X0.2.1 332 60 = some (8, 2, 6, 35, 16, 16) ∧ jx_lk jo_X0.2.1 338 60 = some (9, 2, 6, 36, 16, 17) ∧ jx_lk jo_X0.2.1 344 60 = some (10, 2, 6, 37, 16, 18) ∧ jx_lk jo_X0.2.1 350 60 = some (11, 2, 6, 38, 16, 19) ∧ jx_lk jo_X0.2.1 356 60 = some (12, 2, 6, 39, 16, 20) ∧ jx_lk jo_X0.2.1 115 60 = some (13, 2, 6, 10, 6, 21) ∧ jx_lk jo_X0.2.1 78 60 = some (14, 2, 6, 10, 40, 22) ∧ jx_lk jo_X0.2.1 81 60 = some (15, 2, 6, 10, 40, 23) ∧ jx_lk jo_X0.2.1 84 60 = some (16, 2, 6, 10, 40, 24) ∧ jx_lk jo_X0.2.1 87 60 = some (17, 2, 6, 10, 40, 25) ∧ jx_lk jo_X0.2.1 75 60 = some (18, 0, 0, 0, 0, 0) ∧ jx_lk jo_X0.2.1 15 60 = some (19, 2, 6, 10, 900, 26) ∧ jx_lk jo_X0.2.1 22 60 = some (20, 2, 6, 10, 900, 27) ∧ jx_lk jo_X0.2.1 25 60 = some (21, 2, 6, 10, 900, 28) ∧ jx_lk jo_X0.2.1 28 60 = some (22, 2, 6, 10, 900, 29) ∧ jx_lk jo_X0.2.1 18 60 = some (23, 0, 0, 0, 0, 0) ∧ jx_lk jo_X0.2.1 72 60 = some (24, 0, 0, 0, 0, 0) ∧ jx_lk jo_X0.2.1 161 60 = some (25, 1, 0, 0, 0, 0) ∧ jx_lk jo_X0.2.1 152 60 = some (26, 0, 0, 0, 0, 0) ∧ jx_lk jo_X0.2.1 158 60 = some (27, 2, 6, 10, 16, 30) ∧ jx_lk jo_X0.2.1 155 60 = some (28, 2, 6, 10, 16, 31) ∧ jx_lk jo_X0.2.1 360 60 = some (29, 2, 6, 10, 16, 32) ∧ jx_lk jo_X0.2.1 129 60 = some (30, 0, 0, 0, 0, 0) ∧ jx_lk jo_X0.2.1 100 60 = some (31, 2, 6, 10, 16, 33) ∧ jx_lk jo_X0.2.1 149 60 = some (32, 2, 6, 10, 16, 34) ∧ jx_lk jo_X0.2.1 132 60 = some (33, 2, 6, 10, 360, 35) ∧ jx_lk jo_X0.2.1 135 60 = some (34, 0, 0, 0, 0, 0) ∧ jx_lk jo_X0.2.1 138 60 = some (35, 1, 0, 0, 0, 0) ∧ jx_lk jo_X0.2.1 96 60 = some (36, 2, 6, 10, 256, 36) ∧ jx_lk jo_X0.2.1 168 60 = some (37, 0, 6, 63, 0, 37) ∧ jx_lk jo_X0.2.1 293 60 = some (38, 0, 6, 63, 0, 39) ∧ jx_lk jo_X0.2.1 303 60 = some (39, 2, 6, 63, 0, 41) ∧ jx_lk jo_X0.2.1 177 60 = some (40, 2, 6, 11, 3200, 43) ∧ jx_lk jo_X0.2.1 225 60 = some (41, 2, 6, 11, 16000, 44) ∧ jx_lk jo_X0.2.1 228 60 = some (42, 2, 6, 10, 16, 45) ∧ jx_lk jo_X0.2.1 238 60 = some (43, 2, 6, 10, 16, 46) ∧ jx_lk jo_X0.2.1 286 60 = some (44, 2, 6, 11, 320, 47) ∧ jx_lk jo_X0.2.1 300 60 = some (45, 2, 6, 11, 320, 48) ∧ jx_lk jo_X0.2.1 364 60 = some (46, 2, 6, 10, 6, 49) ∧ jx_lc jo_X0.2.2.1 99 = some (-1000000) ∧ jx_lc jo_X0.2.2.2 399 = some (3) ∧ jx_lc jo_X0.2.2.2 382 = some (4) ∧ jx_lc jo_X0.2.2.2 376 = some (15) ∧ jx_lc jo_X0.2.2.2 420 = some (7) ∧ jx_lc jo_X0.2.2.2 429 = some (5) ∧ jx_lc jo_X0.2.2.2 431 = some (12) ∧ jx_lc jo_X0.2.2.2 433 = some (255) ∧ jx_lc jo_X0.2.2.2 435 = some (-50) ∧ jx_lc jo_X0.2.2.2 437 = some (50) ∧ jx_lc jo_X0.2.2.2 487 = some (-11) ∧ jx_lc jo_X0.2.2.2 489 = some (-2) := ⟨rfl, rfl, rfl, rfl, rfl, rfl, rfl, rfl, rfl, rfl, rfl, rfl, rfl, rfl, rfl, rfl, rfl, rfl, rfl, rfl, rfl, rfl, rfl, rfl, rfl, rfl, rfl, rfl, rfl, rfl, rfl, rfl, rfl, rfl, rfl, rfl, rfl, rfl, rfl, rfl, rfl, rfl, rfl, rfl, rfl, rfl, rfl, rfl, rfl, rfl, rfl, rfl, rfl, rfl, rfl, rfl, rfl, rfl, rfl, rfl, rfl, rfl, rfl, rfl, rfl, rfl, rfl, rfl, rfl, rfl, rfl, rfl, rfl, rfl, rfl, rfl, rfl, rfl, rfl, rfl, rfl⟩
def jo_X1 : jx_O := ("LoopLane$Lane", [(18, 62, 0, 0, 2, 0, 0, 0), (11, 61, 0, 2, 6, 31, 8, 1)], [], [])
theorem jo_X1_ok : jx_OK jo_X1 := ⟨List.forall_mem_cons.mpr ⟨jg_X1_18_62, List.forall_mem_cons.mpr ⟨jg_X1_11_61, fun _ h => absurd h List.not_mem_nil⟩⟩, fun _ h => absurd h List.not_mem_nil, fun _ h => absurd h List.not_mem_nil⟩
theorem jf_X1 : jx_lk jo_X1.2.1 18 62 = some (0, 0, 2, 0, 0, 0) ∧ jx_lk jo_X1.2.1 11 61 = some (0, 2, 6, 31, 8, 1) := ⟨rfl, rfl⟩
def jo_X2 : jx_O := ("LoopLane$Slot", [], [], [])
theorem jo_X2_ok : jx_OK jo_X2 := ⟨fun _ h => absurd h List.not_mem_nil, fun _ h => absurd h List.not_mem_nil, fun _ h => absurd h List.not_mem_nil⟩
def jo_X3 : jx_O := ("LoopLane$Result", [(15, 63, 0, 0, 0, 0, 0, 0), (19, 63, 1, 0, 0, 0, 0, 0), (22, 63, 2, 0, 0, 0, 0, 0), (25, 63, 3, 0, 0, 0, 0, 0), (28, 63, 4, 0, 0, 0, 0, 0), (31, 63, 5, 1, 0, 0, 0, 0), (35, 63, 6, 0, 0, 0, 0, 0), (9, 63, 7, 2, 6, 11, 16, 1)], [], [])
theorem jo_X3_ok : jx_OK jo_X3 := ⟨List.forall_mem_cons.mpr ⟨jg_X3_15_63, List.forall_mem_cons.mpr ⟨jg_X3_19_63, List.forall_mem_cons.mpr ⟨jg_X3_22_63, List.forall_mem_cons.mpr ⟨jg_X3_25_63, List.forall_mem_cons.mpr ⟨jg_X3_28_63, List.forall_mem_cons.mpr ⟨jg_X3_31_63, List.forall_mem_cons.mpr ⟨jg_X3_35_63, List.forall_mem_cons.mpr ⟨jg_X3_9_63, fun _ h => absurd h List.not_mem_nil⟩⟩⟩⟩⟩⟩⟩⟩, fun _ h => absurd h List.not_mem_nil, fun _ h => absurd h List.not_mem_nil⟩
theorem jf_X3 : jx_lk jo_X3.2.1 15 63 = some (0, 0, 0, 0, 0, 0) ∧ jx_lk jo_X3.2.1 19 63 = some (1, 0, 0, 0, 0, 0) ∧ jx_lk jo_X3.2.1 22 63 = some (2, 0, 0, 0, 0, 0) ∧ jx_lk jo_X3.2.1 25 63 = some (3, 0, 0, 0, 0, 0) ∧ jx_lk jo_X3.2.1 28 63 = some (4, 0, 0, 0, 0, 0) ∧ jx_lk jo_X3.2.1 31 63 = some (5, 1, 0, 0, 0, 0) ∧ jx_lk jo_X3.2.1 35 63 = some (6, 0, 0, 0, 0, 0) ∧ jx_lk jo_X3.2.1 9 63 = some (7, 2, 6, 11, 16, 1) := ⟨rfl, rfl, rfl, rfl, rfl, rfl, rfl, rfl⟩
def jo_X4 : jx_O := ("LoopLane$Refusal", [(7, 64, 6, 2, 0, 0, 0, 0)], [], [])
theorem jo_X4_ok : jx_OK jo_X4 := ⟨List.forall_mem_cons.mpr ⟨jg_X4_7_64, fun _ h => absurd h List.not_mem_nil⟩, fun _ h => absurd h List.not_mem_nil, fun _ h => absurd h List.not_mem_nil⟩
theorem jf_X4 : jx_lk jo_X4.2.1 7 64 = some (6, 2, 0, 0, 0, 0) := rfl
def jo_X5 : jx_O := ("LoopLane$Act", [(18, 80, 0, 0, 0, 0, 0, 0), (22, 80, 1, 0, 0, 0, 0, 0), (25, 80, 2, 0, 0, 0, 0, 0), (28, 80, 3, 0, 1, 0, 0, 0), (32, 80, 4, 0, 0, 0, 0, 0), (9, 80, 5, 2, 6, 10, 3, 1), (15, 80, 6, 2, 6, 10, 3, 2)], [], [])
theorem jo_X5_ok : jx_OK jo_X5 := ⟨List.forall_mem_cons.mpr ⟨jg_X5_18_80, List.forall_mem_cons.mpr ⟨jg_X5_22_80, List.forall_mem_cons.mpr ⟨jg_X5_25_80, List.forall_mem_cons.mpr ⟨jg_X5_28_80, List.forall_mem_cons.mpr ⟨jg_X5_32_80, List.forall_mem_cons.mpr ⟨jg_X5_9_80, List.forall_mem_cons.mpr ⟨jg_X5_15_80, fun _ h => absurd h List.not_mem_nil⟩⟩⟩⟩⟩⟩⟩, fun _ h => absurd h List.not_mem_nil, fun _ h => absurd h List.not_mem_nil⟩
theorem jf_X5 : jx_lk jo_X5.2.1 18 80 = some (0, 0, 0, 0, 0, 0) ∧ jx_lk jo_X5.2.1 22 80 = some (1, 0, 0, 0, 0, 0) ∧ jx_lk jo_X5.2.1 25 80 = some (2, 0, 0, 0, 0, 0) ∧ jx_lk jo_X5.2.1 28 80 = some (3, 0, 1, 0, 0, 0) ∧ jx_lk jo_X5.2.1 32 80 = some (4, 0, 0, 0, 0, 0) ∧ jx_lk jo_X5.2.1 9 80 = some (5, 2, 6, 10, 3, 1) ∧ jx_lk jo_X5.2.1 15 80 = some (6, 2, 6, 10, 3, 2) := ⟨rfl, rfl, rfl, rfl, rfl, rfl, rfl⟩
def jo_X6 : jx_O := ("LoopLane$Put", [(9, 66, 7, 0, 1, 0, 0, 0)], [], [])
theorem jo_X6_ok : jx_OK jo_X6 := ⟨List.forall_mem_cons.mpr ⟨jg_X6_9_66, fun _ h => absurd h List.not_mem_nil⟩, fun _ h => absurd h List.not_mem_nil, fun _ h => absurd h List.not_mem_nil⟩
theorem jf_X6 : jx_lk jo_X6.2.1 9 66 = some (7, 0, 1, 0, 0, 0) := rfl
def jo_X7 : jx_O := ("LoopLane$Sum", [], [], [])
theorem jo_X7_ok : jx_OK jo_X7 := ⟨fun _ h => absurd h List.not_mem_nil, fun _ h => absurd h List.not_mem_nil, fun _ h => absurd h List.not_mem_nil⟩
def jo_X8 : jx_O := ("LoopLane$Times", [], [], [])
theorem jo_X8_ok : jx_OK jo_X8 := ⟨fun _ h => absurd h List.not_mem_nil, fun _ h => absurd h List.not_mem_nil, fun _ h => absurd h List.not_mem_nil⟩
def jo_X9 : jx_O := ("LoopLane$Over", [], [], [])
theorem jo_X9_ok : jx_OK jo_X9 := ⟨fun _ h => absurd h List.not_mem_nil, fun _ h => absurd h List.not_mem_nil, fun _ h => absurd h List.not_mem_nil⟩
def jo_X10 : jx_O := ("LoopLane$Fetch", [(9, 70, 7, 0, 0, 0, 0, 0), (9, 71, 7, 0, 0, 0, 0, 0), (9, 81, 7, 0, 0, 0, 0, 0)], [], [(25, 40)])
theorem jo_X10_ok : jx_OK jo_X10 := ⟨List.forall_mem_cons.mpr ⟨jg_X10_9_70, List.forall_mem_cons.mpr ⟨jg_X10_9_71, List.forall_mem_cons.mpr ⟨jg_X10_9_81, fun _ h => absurd h List.not_mem_nil⟩⟩⟩, fun _ h => absurd h List.not_mem_nil, List.forall_mem_cons.mpr ⟨q1056, fun _ h => absurd h List.not_mem_nil⟩⟩
theorem jf_X10 : jx_lk jo_X10.2.1 9 70 = some (7, 0, 0, 0, 0, 0) ∧ jx_lk jo_X10.2.1 9 71 = some (7, 0, 0, 0, 0, 0) ∧ jx_lk jo_X10.2.1 9 81 = some (7, 0, 0, 0, 0, 0) ∧ jx_lc jo_X10.2.2.2 25 = some (40) := ⟨rfl, rfl, rfl, rfl⟩
def jo_X11 : jx_O := ("LoopLane$Store", [], [], [])
theorem jo_X11_ok : jx_OK jo_X11 := ⟨fun _ h => absurd h List.not_mem_nil, fun _ h => absurd h List.not_mem_nil, fun _ h => absurd h List.not_mem_nil⟩
def jo_X12 : jx_O := ("LoopLane$Pick", [], [], [])
theorem jo_X12_ok : jx_OK jo_X12 := ⟨fun _ h => absurd h List.not_mem_nil, fun _ h => absurd h List.not_mem_nil, fun _ h => absurd h List.not_mem_nil⟩
def jo_X13 : jx_O := ("LoopLaneModel", [(7, 73, 0, 2, 6, 10, 16, 1), (13, 73, 1, 2, 6, 10, 16, 2), (16, 73, 2, 2, 6, 10, 16, 3), (19, 73, 3, 2, 6, 10, 16, 4), (22, 73, 4, 2, 6, 10, 16, 5), (25, 73, 5, 2, 6, 10, 48, 6), (28, 73, 6, 2, 6, 10, 48, 7), (31, 73, 7, 2, 6, 11, 16, 8), (35, 73, 8, 2, 6, 11, 16, 9), (118, 73, 9, 0, 0, 0, 0, 0), (38, 73, 10, 2, 6, 10, 6, 10), (41, 73, 11, 2, 6, 10, 40, 11), (44, 73, 12, 2, 6, 10, 40, 12), (47, 73, 13, 2, 6, 10, 40, 13), (50, 73, 14, 2, 6, 10, 40, 14), (172, 73, 15, 0, 0, 0, 0, 0), (53, 73, 16, 2, 6, 10, 704, 15), (56, 73, 17, 2, 6, 10, 704, 16), (59, 73, 18, 2, 6, 10, 704, 17), (62, 73, 19, 2, 6, 10, 704, 18), (180, 73, 20, 0, 0, 0, 0, 0), (65, 73, 21, 2, 6, 11, 320, 19), (68, 73, 22, 2, 6, 11, 320, 20), (71, 73, 23, 2, 6, 10, 8, 21), (74, 73, 24, 2, 6, 12, 8, 22), (78, 73, 25, 2, 6, 10, 12, 23), (114, 73, 26, 0, 0, 0, 0, 0), (121, 73, 27, 0, 0, 0, 0, 0), (81, 73, 28, 2, 6, 10, 16, 24), (84, 73, 29, 2, 6, 10, 16, 25), (87, 73, 30, 2, 6, 10, 16, 26), (90, 73, 31, 2, 6, 10, 16, 27), (221, 73, 32, 0, 0, 0, 0, 0), (93, 73, 33, 2, 6, 10, 16, 28), (96, 73, 34, 2, 6, 10, 16, 29), (99, 73, 35, 2, 6, 10, 60, 30), (102, 73, 36, 2, 6, 10, 6, 31), (105, 73, 37, 2, 6, 11, 3216, 32), (258, 73, 38, 0, 0, 0, 0, 0), (261, 73, 39, 0, 0, 0, 0, 0), (264, 73, 40, 0, 0, 0, 0, 0), (267, 73, 41, 0, 0, 0, 0, 0), (270, 73, 42, 0, 0, 0, 0, 0), (273, 73, 43, 0, 0, 0, 0, 0), (276, 73, 44, 0, 0, 0, 0, 0)], [(196, 100000)], [(147, 3), (135, 4), (141, 15), (157, 7), (162, 5), (164, 12), (166, 255), (168, -50), (170, 50), (175, 10), (233, 60), (235, 2), (252, 40), (300, -11), (302, -2)])
theorem jo_X13_ok : jx_OK jo_X13 := ⟨List.forall_mem_cons.mpr ⟨jg_X13_7_73, List.forall_mem_cons.mpr ⟨jg_X13_13_73, List.forall_mem_cons.mpr ⟨jg_X13_16_73, List.forall_mem_cons.mpr ⟨jg_X13_19_73, List.forall_mem_cons.mpr ⟨jg_X13_22_73, List.forall_mem_cons.mpr ⟨jg_X13_25_73, List.forall_mem_cons.mpr ⟨jg_X13_28_73, List.forall_mem_cons.mpr ⟨jg_X13_31_73, List.forall_mem_cons.mpr ⟨jg_X13_35_73, List.forall_mem_cons.mpr ⟨jg_X13_118_73, List.forall_mem_cons.mpr ⟨jg_X13_38_73, List.forall_mem_cons.mpr ⟨jg_X13_41_73, List.forall_mem_cons.mpr ⟨jg_X13_44_73, List.forall_mem_cons.mpr ⟨jg_X13_47_73, List.forall_mem_cons.mpr ⟨jg_X13_50_73, List.forall_mem_cons.mpr ⟨jg_X13_172_73, List.forall_mem_cons.mpr ⟨jg_X13_53_73, List.forall_mem_cons.mpr ⟨jg_X13_56_73, List.forall_mem_cons.mpr ⟨jg_X13_59_73, List.forall_mem_cons.mpr ⟨jg_X13_62_73, List.forall_mem_cons.mpr ⟨jg_X13_180_73, List.forall_mem_cons.mpr ⟨jg_X13_65_73, List.forall_mem_cons.mpr ⟨jg_X13_68_73, List.forall_mem_cons.mpr ⟨jg_X13_71_73, List.forall_mem_cons.mpr ⟨jg_X13_74_73, List.forall_mem_cons.mpr ⟨jg_X13_78_73, List.forall_mem_cons.mpr ⟨jg_X13_114_73, List.forall_mem_cons.mpr ⟨jg_X13_121_73, List.forall_mem_cons.mpr ⟨jg_X13_81_73, List.forall_mem_cons.mpr ⟨jg_X13_84_73, List.forall_mem_cons.mpr ⟨jg_X13_87_73, List.forall_mem_cons.mpr ⟨jg_X13_90_73, List.forall_mem_cons.mpr ⟨jg_X13_221_73, List.forall_mem_cons.mpr ⟨jg_X13_93_73, List.forall_mem_cons.mpr ⟨jg_X13_96_73, List.forall_mem_cons.mpr ⟨jg_X13_99_73, List.forall_mem_cons.mpr ⟨jg_X13_102_73, List.forall_mem_cons.mpr ⟨jg_X13_105_73, List.forall_mem_cons.mpr ⟨jg_X13_258_73, List.forall_mem_cons.mpr ⟨jg_X13_261_73, List.forall_mem_cons.mpr ⟨jg_X13_264_73, List.forall_mem_cons.mpr ⟨jg_X13_267_73, List.forall_mem_cons.mpr ⟨jg_X13_270_73, List.forall_mem_cons.mpr ⟨jg_X13_273_73, List.forall_mem_cons.mpr ⟨jg_X13_276_73, fun _ h => absurd h List.not_mem_nil⟩⟩⟩⟩⟩⟩⟩⟩⟩⟩⟩⟩⟩⟩⟩⟩⟩⟩⟩⟩⟩⟩⟩⟩⟩⟩⟩⟩⟩⟩⟩⟩⟩⟩⟩⟩⟩⟩⟩⟩⟩⟩⟩⟩⟩, List.forall_mem_cons.mpr ⟨q1408, fun _ h => absurd h List.not_mem_nil⟩, List.forall_mem_cons.mpr ⟨q1300, List.forall_mem_cons.mpr ⟨q1307, List.forall_mem_cons.mpr ⟨q1312, List.forall_mem_cons.mpr ⟨q1317, List.forall_mem_cons.mpr ⟨q1334, List.forall_mem_cons.mpr ⟨q1335, List.forall_mem_cons.mpr ⟨q1336, List.forall_mem_cons.mpr ⟨q1349, List.forall_mem_cons.mpr ⟨q1350, List.forall_mem_cons.mpr ⟨q1359, List.forall_mem_cons.mpr ⟨q1440, List.forall_mem_cons.mpr ⟨q1449, List.forall_mem_cons.mpr ⟨q1501, List.forall_mem_cons.mpr ⟨q1567, List.forall_mem_cons.mpr ⟨q1568, fun _ h => absurd h List.not_mem_nil⟩⟩⟩⟩⟩⟩⟩⟩⟩⟩⟩⟩⟩⟩⟩⟩
theorem jf_X13 : jx_lk jo_X13.2.1 7 73 = some (0, 2, 6, 10, 16, 1) ∧ jx_lk jo_X13.2.1 13 73 = some (1, 2, 6, 10, 16, 2) ∧ jx_lk jo_X13.2.1 16 73 = some (2, 2, 6, 10, 16, 3) ∧ jx_lk jo_X13.2.1 19 73 = some (3, 2, 6, 10, 16, 4) ∧ jx_lk jo_X13.2.1 22 73 = some (4, 2, 6, 10, 16, 5) ∧ jx_lk jo_X13.2.1 25 73 = some (5, 2, 6, 10, 48, 6) ∧ jx_lk jo_X13.2.1 28 73 = some (6, 2, 6, 10, 48, 7) ∧ jx_lk jo_X13.2.1 31 73 = some (7, 2, 6, 11, 16, 8) ∧ jx_lk jo_X13.2.1 35 73 = some (8, 2, 6, 11, 16, 9) ∧ jx_lk jo_X13.2.1 118 73 = some (9, 0, 0, 0, 0, 0) ∧ jx_lk jo_X13.2.1 38 73 = some (10, 2, 6, 10, 6, 10) ∧ jx_lk jo_X13.2.1 41 73 = some (11, 2, 6, 10, 40, 11) ∧ jx_lk jo_X13.2.1 44 73 = some (12, 2, 6, 10, 40, 12) ∧ jx_lk jo_X13.2.1 47 73 = some (13, 2, 6, 10, 40, 13) ∧ jx_lk jo_X13.2.1 50 73 = some (14, 2, 6, 10, 40, 14) ∧ jx_lk jo_X13.2.1 172 73 = some (15, 0, 0, 0, 0, 0) ∧ jx_lk jo_X13.2.1 53 73 = some (16, 2, 6, 10, 704, 15) ∧ jx_lk jo_X13.2.1 56 73 = some (17, 2, 6, 10, 704, 16) ∧ jx_lk jo_X13.2.1 59 73 = some (18, 2, 6, 10, 704, 17) ∧ jx_lk jo_X13.2.1 62 73 = some (19, 2, 6, 10, 704, 18) ∧ jx_lk jo_X13.2.1 180 73 = some (20, 0, 0, 0, 0, 0) ∧ jx_lk jo_X13.2.1 65 73 = some (21, 2, 6, 11, 320, 19) ∧ jx_lk jo_X13.2.1 68 73 = some (22, 2, 6, 11, 320, 20) ∧ jx_lk jo_X13.2.1 71 73 = some (23, 2, 6, 10, 8, 21) ∧ jx_lk jo_X13.2.1 74 73 = some (24, 2, 6, 12, 8, 22) ∧ jx_lk jo_X13.2.1 78 73 = some (25, 2, 6, 10, 12, 23) ∧ jx_lk jo_X13.2.1 114 73 = some (26, 0, 0, 0, 0, 0) ∧ jx_lk jo_X13.2.1 121 73 = some (27, 0, 0, 0, 0, 0) ∧ jx_lk jo_X13.2.1 81 73 = some (28, 2, 6, 10, 16, 24) ∧ jx_lk jo_X13.2.1 84 73 = some (29, 2, 6, 10, 16, 25) ∧ jx_lk jo_X13.2.1 87 73 = some (30, 2, 6, 10, 16, 26) ∧ jx_lk jo_X13.2.1 90 73 = some (31, 2, 6, 10, 16, 27) ∧ jx_lk jo_X13.2.1 221 73 = some (32, 0, 0, 0, 0, 0) ∧ jx_lk jo_X13.2.1 93 73 = some (33, 2, 6, 10, 16, 28) ∧ jx_lk jo_X13.2.1 96 73 = some (34, 2, 6, 10, 16, 29) ∧ jx_lk jo_X13.2.1 99 73 = some (35, 2, 6, 10, 60, 30) ∧ jx_lk jo_X13.2.1 102 73 = some (36, 2, 6, 10, 6, 31) ∧ jx_lk jo_X13.2.1 105 73 = some (37, 2, 6, 11, 3216, 32) ∧ jx_lk jo_X13.2.1 258 73 = some (38, 0, 0, 0, 0, 0) ∧ jx_lk jo_X13.2.1 261 73 = some (39, 0, 0, 0, 0, 0) ∧ jx_lk jo_X13.2.1 264 73 = some (40, 0, 0, 0, 0, 0) ∧ jx_lk jo_X13.2.1 267 73 = some (41, 0, 0, 0, 0, 0) ∧ jx_lk jo_X13.2.1 270 73 = some (42, 0, 0, 0, 0, 0) ∧ jx_lk jo_X13.2.1 273 73 = some (43, 0, 0, 0, 0, 0) ∧ jx_lk jo_X13.2.1 276 73 = some (44, 0, 0, 0, 0, 0) ∧ jx_lc jo_X13.2.2.1 196 = some (100000) ∧ jx_lc jo_X13.2.2.2 147 = some (3) ∧ jx_lc jo_X13.2.2.2 135 = some (4) ∧ jx_lc jo_X13.2.2.2 141 = some (15) ∧ jx_lc jo_X13.2.2.2 157 = some (7) ∧ jx_lc jo_X13.2.2.2 162 = some (5) ∧ jx_lc jo_X13.2.2.2 164 = some (12) ∧ jx_lc jo_X13.2.2.2 166 = some (255) ∧ jx_lc jo_X13.2.2.2 168 = some (-50) ∧ jx_lc jo_X13.2.2.2 170 = some (50) ∧ jx_lc jo_X13.2.2.2 175 = some (10) ∧ jx_lc jo_X13.2.2.2 233 = some (60) ∧ jx_lc jo_X13.2.2.2 235 = some (2) ∧ jx_lc jo_X13.2.2.2 252 = some (40) ∧ jx_lc jo_X13.2.2.2 300 = some (-11) ∧ jx_lc jo_X13.2.2.2 302 = some (-2) := ⟨rfl, rfl, rfl, rfl, rfl, rfl, rfl, rfl, rfl, rfl, rfl, rfl, rfl, rfl, rfl, rfl, rfl, rfl, rfl, rfl, rfl, rfl, rfl, rfl, rfl, rfl, rfl, rfl, rfl, rfl, rfl, rfl, rfl, rfl, rfl, rfl, rfl, rfl, rfl, rfl, rfl, rfl, rfl, rfl, rfl, rfl, rfl, rfl, rfl, rfl, rfl, rfl, rfl, rfl, rfl, rfl, rfl, rfl, rfl, rfl, rfl⟩
def jo_L : jx_O := ("LoopLaneLaw", [], [], [(13, 4294967295)])
theorem jo_L_ok : jx_OK jo_L := ⟨fun _ h => absurd h List.not_mem_nil, fun _ h => absurd h List.not_mem_nil, List.forall_mem_cons.mpr ⟨q1569, fun _ h => absurd h List.not_mem_nil⟩⟩
theorem jf_L : jx_lc jo_L.2.2.2 13 = some (4294967295) := rfl
def jo_J9 : jx_O := ("java/lang/Integer", [], [(265, 1431655765), (266, 858993459), (267, 252645135)], [])
theorem jo_J9_ok : jx_OK jo_J9 := ⟨fun _ h => absurd h List.not_mem_nil, List.forall_mem_cons.mpr ⟨q896, List.forall_mem_cons.mpr ⟨q897, List.forall_mem_cons.mpr ⟨q898, fun _ h => absurd h List.not_mem_nil⟩⟩⟩, fun _ h => absurd h List.not_mem_nil⟩
theorem jf_J9 : jx_lc jo_J9.2.2.1 265 = some (1431655765) ∧ jx_lc jo_J9.2.2.1 266 = some (858993459) ∧ jx_lc jo_J9.2.2.1 267 = some (252645135) := ⟨rfl, rfl, rfl⟩
def jo_J10 : jx_O := ("java/lang/Math", [], [], [])
theorem jo_J10_ok : jx_OK jo_J10 := ⟨fun _ h => absurd h List.not_mem_nil, fun _ h => absurd h List.not_mem_nil, fun _ h => absurd h List.not_mem_nil⟩
