/-! facts of fields, classes and calls (printed by gen/run.py) -/
set_option maxRecDepth 100000
theorem qcl_0 : qCl 0 RX0 TX0 5 := ⟨rfl, in_X0, ⟨tyX0, tyX0_ok⟩, nmX0⟩
theorem qcl_1 : qCl 1 RX1 TX1 14 := ⟨rfl, in_X1, ⟨tyX1, tyX1_ok⟩, nmX1⟩
theorem qcl_2 : qCl 2 RX3 TX3 6 := ⟨rfl, in_X3, ⟨tyX3, tyX3_ok⟩, nmX3⟩
theorem qcl_3 : qCl 3 RX4 TX4 2 := ⟨rfl, in_X4, ⟨tyX4, tyX4_ok⟩, nmX4⟩
theorem qcl_4 : qCl 4 RX5 TX5 16 := ⟨rfl, in_X5, ⟨tyX5, tyX5_ok⟩, nmX5⟩
theorem qcl_5 : qCl 5 RX9 TX9 3 := ⟨rfl, in_X9, ⟨tyX9, tyX9_ok⟩, nmX9⟩
theorem qcl_6 : qCl 6 RX11 TX11 3 := ⟨rfl, in_X11, ⟨tyX11, tyX11_ok⟩, nmX11⟩
theorem qcl_7 : qCl 7 RJ2 TJ2 3 := ⟨rfl, in_J2, ⟨tyJ2, tyJ2_ok⟩, nmJ2⟩
theorem qcl_8 : qCl 8 RJ4 TJ4 4 := ⟨rfl, in_J4, ⟨tyJ4, tyJ4_ok⟩, nmJ4⟩
theorem in_O14 : ∀ w ∈ u_ws RX7 TO14 1, w ∈ lw_all := List.forall_mem_cons.mpr ⟨q368, fun _ h => nomatch h⟩
theorem qcl_14 : qCl 14 RX7 TO14 1 := ⟨rfl, in_O14, ⟨fun k => match k with | _ => .int, by decide +kernel⟩, by decide +kernel⟩
theorem in_O15 : ∀ w ∈ u_ws RX8 TO15 1, w ∈ lw_all := List.forall_mem_cons.mpr ⟨q608, fun _ h => nomatch h⟩
theorem qcl_15 : qCl 15 RX8 TO15 1 := ⟨rfl, in_O15, ⟨fun k => match k with | _ => .int, by decide +kernel⟩, by decide +kernel⟩
theorem in_O16 : ∀ w ∈ u_ws RX10 TO16 1, w ∈ lw_all := List.forall_mem_cons.mpr ⟨q908, fun _ h => nomatch h⟩
theorem qcl_16 : qCl 16 RX10 TO16 1 := ⟨rfl, in_O16, ⟨fun k => match k with | _ => .int, by decide +kernel⟩, by decide +kernel⟩
theorem in_O17 : ∀ w ∈ u_ws RX12 TO17 2, w ∈ lw_all := List.forall_mem_cons.mpr ⟨q993, List.forall_mem_cons.mpr ⟨q995, fun _ h => nomatch h⟩⟩
theorem qcl_17 : qCl 17 RX12 TO17 2 := ⟨rfl, in_O17, ⟨fun k => match k with | 0 => .int | _ => (.object "BarnPictures$Refusal"), by decide +kernel⟩, by decide +kernel⟩
theorem hc_0 : ∀ ci ∈ [0], ∃ T N, vwCl[ci]? = some (RX0, T, N) := List.forall_mem_cons.mpr ⟨⟨_, _, rfl⟩, fun _ h => nomatch h⟩
theorem hc_1 : ∀ ci ∈ [1], ∃ T N, vwCl[ci]? = some (RX1, T, N) := List.forall_mem_cons.mpr ⟨⟨_, _, rfl⟩, fun _ h => nomatch h⟩
theorem hc_2 : ∀ ci ∈ [2], ∃ T N, vwCl[ci]? = some (RX3, T, N) := List.forall_mem_cons.mpr ⟨⟨_, _, rfl⟩, fun _ h => nomatch h⟩
theorem hc_3 : ∀ ci ∈ [3], ∃ T N, vwCl[ci]? = some (RX4, T, N) := List.forall_mem_cons.mpr ⟨⟨_, _, rfl⟩, fun _ h => nomatch h⟩
theorem hc_4 : ∀ ci ∈ [4], ∃ T N, vwCl[ci]? = some (RX5, T, N) := List.forall_mem_cons.mpr ⟨⟨_, _, rfl⟩, fun _ h => nomatch h⟩
theorem hc_5 : ∀ ci ∈ [5], ∃ T N, vwCl[ci]? = some (RX9, T, N) := List.forall_mem_cons.mpr ⟨⟨_, _, rfl⟩, fun _ h => nomatch h⟩
theorem hc_6 : ∀ ci ∈ [6], ∃ T N, vwCl[ci]? = some (RX11, T, N) := List.forall_mem_cons.mpr ⟨⟨_, _, rfl⟩, fun _ h => nomatch h⟩
theorem hc_7 : ∀ ci ∈ [7], ∃ T N, vwCl[ci]? = some (RJ2, T, N) := List.forall_mem_cons.mpr ⟨⟨_, _, rfl⟩, fun _ h => nomatch h⟩
theorem hc_8 : ∀ ci ∈ [8], ∃ T N, vwCl[ci]? = some (RJ4, T, N) := List.forall_mem_cons.mpr ⟨⟨_, _, rfl⟩, fun _ h => nomatch h⟩
theorem hc_14 : ∀ ci ∈ [14], ∃ T N, vwCl[ci]? = some (RX7, T, N) := List.forall_mem_cons.mpr ⟨⟨_, _, rfl⟩, fun _ h => nomatch h⟩
theorem hc_15 : ∀ ci ∈ [15], ∃ T N, vwCl[ci]? = some (RX8, T, N) := List.forall_mem_cons.mpr ⟨⟨_, _, rfl⟩, fun _ h => nomatch h⟩
theorem hc_16 : ∀ ci ∈ [16], ∃ T N, vwCl[ci]? = some (RX10, T, N) := List.forall_mem_cons.mpr ⟨⟨_, _, rfl⟩, fun _ h => nomatch h⟩
theorem hc_17 : ∀ ci ∈ [17], ∃ T N, vwCl[ci]? = some (RX12, T, N) := List.forall_mem_cons.mpr ⟨⟨_, _, rfl⟩, fun _ h => nomatch h⟩
def fs_0 : List QV := [.inr none, .inr none, .inr none, .inr none, .inr none]
def fs_1 : List QV := [.inr none, .inr none, .inr none, .inr none, .inr none, .inr none, .inl 0, .inl 0, .inl 0, .inl 0, .inl 0, .inl 0, .inl 0, .inl 0]
def fs_2 : List QV := [.inl 0, .inl 0, .inl 0, .inl 0, .inl 0, .inl 0]
def fs_3 : List QV := [.inl 0, .inl 0]
def fs_4 : List QV := [.inr none, .inr none, .inr none, .inl 0, .inr none, .inl 0, .inr none, .inl 0, .inl 0, .inl 0, .inl 0, .inl 0, .inl 0, .inl 0, .inl 0, .inl 0]
def fs_5 : List QV := [.inr none, .inr none, .inl 0]
def fs_6 : List QV := [.inl 0, .inl 0, .inl 0]
def fs_7 : List QV := [.inl 0, .inr none, .inl 0]
def fs_8 : List QV := [.inr none, .inl 0, .inl 0, .inl 0]
theorem fd_0 : ∀ ρ : QN → Nat, ∀ j, j < 5 → defaultValue (tyX0 j) = vp_V (fs_0.map (qv ρ)) j := fun ρ j hj => by
  match j, hj with
  | 0, _ => rfl
  | 1, _ => rfl
  | 2, _ => rfl
  | 3, _ => rfl
  | 4, _ => rfl
  | j + 5, h => exact absurd h (by omega)
theorem fn_0 : ∀ q : QN, (Sum.inr (some q) : QV) ∉ fs_0 := fun q h => by
  simp [fs_0] at h
theorem fd_1 : ∀ ρ : QN → Nat, ∀ j, j < 14 → defaultValue (tyX1 j) = vp_V (fs_1.map (qv ρ)) j := fun ρ j hj => by
  match j, hj with
  | 0, _ => rfl
  | 1, _ => rfl
  | 2, _ => rfl
  | 3, _ => rfl
  | 4, _ => rfl
  | 5, _ => rfl
  | 6, _ => rfl
  | 7, _ => rfl
  | 8, _ => rfl
  | 9, _ => rfl
  | 10, _ => rfl
  | 11, _ => rfl
  | 12, _ => rfl
  | 13, _ => rfl
  | j + 14, h => exact absurd h (by omega)
theorem fn_1 : ∀ q : QN, (Sum.inr (some q) : QV) ∉ fs_1 := fun q h => by
  simp [fs_1] at h
theorem fd_2 : ∀ ρ : QN → Nat, ∀ j, j < 6 → defaultValue (tyX3 j) = vp_V (fs_2.map (qv ρ)) j := fun ρ j hj => by
  match j, hj with
  | 0, _ => rfl
  | 1, _ => rfl
  | 2, _ => rfl
  | 3, _ => rfl
  | 4, _ => rfl
  | 5, _ => rfl
  | j + 6, h => exact absurd h (by omega)
theorem fn_2 : ∀ q : QN, (Sum.inr (some q) : QV) ∉ fs_2 := fun q h => by
  simp [fs_2] at h
theorem fd_3 : ∀ ρ : QN → Nat, ∀ j, j < 2 → defaultValue (tyX4 j) = vp_V (fs_3.map (qv ρ)) j := fun ρ j hj => by
  match j, hj with
  | 0, _ => rfl
  | 1, _ => rfl
  | j + 2, h => exact absurd h (by omega)
theorem fn_3 : ∀ q : QN, (Sum.inr (some q) : QV) ∉ fs_3 := fun q h => by
  simp [fs_3] at h
theorem fd_4 : ∀ ρ : QN → Nat, ∀ j, j < 16 → defaultValue (tyX5 j) = vp_V (fs_4.map (qv ρ)) j := fun ρ j hj => by
  match j, hj with
  | 0, _ => rfl
  | 1, _ => rfl
  | 2, _ => rfl
  | 3, _ => rfl
  | 4, _ => rfl
  | 5, _ => rfl
  | 6, _ => rfl
  | 7, _ => rfl
  | 8, _ => rfl
  | 9, _ => rfl
  | 10, _ => rfl
  | 11, _ => rfl
  | 12, _ => rfl
  | 13, _ => rfl
  | 14, _ => rfl
  | 15, _ => rfl
  | j + 16, h => exact absurd h (by omega)
theorem fn_4 : ∀ q : QN, (Sum.inr (some q) : QV) ∉ fs_4 := fun q h => by
  simp [fs_4] at h
theorem fd_5 : ∀ ρ : QN → Nat, ∀ j, j < 3 → defaultValue (tyX9 j) = vp_V (fs_5.map (qv ρ)) j := fun ρ j hj => by
  match j, hj with
  | 0, _ => rfl
  | 1, _ => rfl
  | 2, _ => rfl
  | j + 3, h => exact absurd h (by omega)
theorem fn_5 : ∀ q : QN, (Sum.inr (some q) : QV) ∉ fs_5 := fun q h => by
  simp [fs_5] at h
theorem fd_6 : ∀ ρ : QN → Nat, ∀ j, j < 3 → defaultValue (tyX11 j) = vp_V (fs_6.map (qv ρ)) j := fun ρ j hj => by
  match j, hj with
  | 0, _ => rfl
  | 1, _ => rfl
  | 2, _ => rfl
  | j + 3, h => exact absurd h (by omega)
theorem fn_6 : ∀ q : QN, (Sum.inr (some q) : QV) ∉ fs_6 := fun q h => by
  simp [fs_6] at h
theorem fd_7 : ∀ ρ : QN → Nat, ∀ j, j < 3 → defaultValue (tyJ2 j) = vp_V (fs_7.map (qv ρ)) j := fun ρ j hj => by
  match j, hj with
  | 0, _ => rfl
  | 1, _ => rfl
  | 2, _ => rfl
  | j + 3, h => exact absurd h (by omega)
theorem fn_7 : ∀ q : QN, (Sum.inr (some q) : QV) ∉ fs_7 := fun q h => by
  simp [fs_7] at h
theorem fd_8 : ∀ ρ : QN → Nat, ∀ j, j < 4 → defaultValue (tyJ4 j) = vp_V (fs_8.map (qv ρ)) j := fun ρ j hj => by
  match j, hj with
  | 0, _ => rfl
  | 1, _ => rfl
  | 2, _ => rfl
  | 3, _ => rfl
  | j + 4, h => exact absurd h (by omega)
theorem fn_8 : ∀ q : QN, (Sum.inr (some q) : QV) ∉ fs_8 := fun q h => by
  simp [fs_8] at h
theorem fd_10 : ∀ ρ : QN → Nat, ∀ j, j < 7 → defaultValue (tyX7 j) = vp_V (fs_10.map (qv ρ)) j := fun ρ j hj => by
  match j, hj with
  | 0, _ => rfl
  | 1, _ => rfl
  | 2, _ => rfl
  | 3, _ => rfl
  | 4, _ => rfl
  | 5, _ => rfl
  | 6, _ => rfl
  | j + 7, h => exact absurd h (by omega)
theorem fn_10 : ∀ q : QN, (Sum.inr (some q) : QV) ∉ fs_10 := fun q h => by
  simp [fs_10] at h
theorem fd_11 : ∀ ρ : QN → Nat, ∀ j, j < 7 → defaultValue (tyX8 j) = vp_V (fs_11.map (qv ρ)) j := fun ρ j hj => by
  match j, hj with
  | 0, _ => rfl
  | 1, _ => rfl
  | 2, _ => rfl
  | 3, _ => rfl
  | 4, _ => rfl
  | 5, _ => rfl
  | 6, _ => rfl
  | j + 7, h => exact absurd h (by omega)
theorem fn_11 : ∀ q : QN, (Sum.inr (some q) : QV) ∉ fs_11 := fun q h => by
  simp [fs_11, fs_10] at h
theorem fd_12 : ∀ ρ : QN → Nat, ∀ j, j < 7 → defaultValue (tyX10 j) = vp_V (fs_12.map (qv ρ)) j := fun ρ j hj => by
  match j, hj with
  | 0, _ => rfl
  | 1, _ => rfl
  | 2, _ => rfl
  | 3, _ => rfl
  | 4, _ => rfl
  | 5, _ => rfl
  | 6, _ => rfl
  | j + 7, h => exact absurd h (by omega)
theorem fn_12 : ∀ q : QN, (Sum.inr (some q) : QV) ∉ fs_12 := fun q h => by
  simp [fs_12, fs_10] at h
theorem fd_13 : ∀ ρ : QN → Nat, ∀ j, j < 8 → defaultValue (tyX12 j) = vp_V (fs_13.map (qv ρ)) j := fun ρ j hj => by
  match j, hj with
  | 0, _ => rfl
  | 1, _ => rfl
  | 2, _ => rfl
  | 3, _ => rfl
  | 4, _ => rfl
  | 5, _ => rfl
  | 6, _ => rfl
  | 7, _ => rfl
  | j + 8, h => exact absurd h (by omega)
theorem fn_13 : ∀ q : QN, (Sum.inr (some q) : QV) ∉ fs_13 := fun q h => by
  simp [fs_13] at h
theorem exw_10 : ∀ w ∈ exL "BarnPictures$Wrong" "BarnPictures$Refusal" ["java/lang/Exception"], exW w := List.forall_mem_cons.mpr ⟨Or.inl q60, List.forall_mem_cons.mpr ⟨Or.inl q333, List.forall_mem_cons.mpr ⟨Or.inl q342, List.forall_mem_cons.mpr ⟨Or.inl q347, List.forall_mem_cons.mpr ⟨Or.inl q350, List.forall_mem_cons.mpr ⟨Or.inl q352, List.forall_mem_cons.mpr ⟨Or.inl q334, List.forall_mem_cons.mpr ⟨Or.inl q335, List.forall_mem_cons.mpr ⟨Or.inl q82, List.forall_mem_cons.mpr ⟨Or.inl q83, List.forall_mem_cons.mpr ⟨Or.inl q336, List.forall_mem_cons.mpr ⟨Or.inl q341, List.forall_mem_cons.mpr ⟨Or.inl q348, List.forall_mem_cons.mpr ⟨Or.inl q365, List.forall_mem_cons.mpr ⟨Or.inl q323, List.forall_mem_cons.mpr ⟨Or.inl q366, List.forall_mem_cons.mpr ⟨Or.inl q325, List.forall_mem_cons.mpr ⟨Or.inl q367, List.forall_mem_cons.mpr ⟨Or.inl q327, List.forall_mem_cons.mpr ⟨Or.inl q337, List.forall_mem_cons.mpr ⟨Or.inr (Or.inr (Or.inl rfl)), List.forall_mem_cons.mpr ⟨Or.inl q339, List.forall_mem_cons.mpr ⟨Or.inr (Or.inr (Or.inr rfl)), List.forall_mem_cons.mpr ⟨Or.inl q329, List.forall_mem_cons.mpr ⟨Or.inl q357, List.forall_mem_cons.mpr ⟨Or.inl q358, List.forall_mem_cons.mpr ⟨Or.inl q359, List.forall_mem_cons.mpr ⟨Or.inl q360, List.forall_mem_cons.mpr ⟨Or.inr (Or.inl (qnw_in q316 rfl)), List.forall_mem_cons.mpr ⟨Or.inl q360, List.forall_mem_cons.mpr ⟨Or.inl q361, List.forall_mem_cons.mpr ⟨Or.inl q362, List.forall_mem_cons.mpr ⟨Or.inl q334, List.forall_mem_cons.mpr ⟨Or.inr (Or.inl (qnw_in q318 rfl)), List.forall_mem_cons.mpr ⟨Or.inl q320, List.forall_mem_cons.mpr ⟨Or.inl q321, List.forall_mem_cons.mpr ⟨Or.inl q332, List.forall_mem_cons.mpr ⟨Or.inl q331, List.forall_mem_cons.mpr ⟨Or.inl q322, List.forall_mem_cons.mpr ⟨Or.inl q324, List.forall_mem_cons.mpr ⟨Or.inl q326, fun _ h => nomatch h⟩⟩⟩⟩⟩⟩⟩⟩⟩⟩⟩⟩⟩⟩⟩⟩⟩⟩⟩⟩⟩⟩⟩⟩⟩⟩⟩⟩⟩⟩⟩⟩⟩⟩⟩⟩⟩⟩⟩⟩⟩
theorem exf_10 : ExF 10 1 RX7 "BarnPictures$Refusal" ["java/lang/Exception"] TX7 TO14 7 1 := ⟨Or.inr ⟨_, qnw_in q356 rfl⟩, by decide +kernel, by decide +kernel, exw_10, q357, q358, rfl, in_X7, ⟨tyX7, tyX7_ok⟩, nmX7, by decide, rfl, rfl, rfl, rfl, rfl, rfl, by decide +kernel, fun q h => by simp [fs_ex, fs_10, fs_13] at h⟩
theorem exw_11 : ∀ w ∈ exL "BarnPictures$NoShow" "BarnPictures$Refusal" ["java/lang/Exception"], exW w := List.forall_mem_cons.mpr ⟨Or.inl q60, List.forall_mem_cons.mpr ⟨Or.inl q333, List.forall_mem_cons.mpr ⟨Or.inl q342, List.forall_mem_cons.mpr ⟨Or.inl q347, List.forall_mem_cons.mpr ⟨Or.inl q350, List.forall_mem_cons.mpr ⟨Or.inl q352, List.forall_mem_cons.mpr ⟨Or.inl q334, List.forall_mem_cons.mpr ⟨Or.inl q335, List.forall_mem_cons.mpr ⟨Or.inl q82, List.forall_mem_cons.mpr ⟨Or.inl q83, List.forall_mem_cons.mpr ⟨Or.inl q336, List.forall_mem_cons.mpr ⟨Or.inl q341, List.forall_mem_cons.mpr ⟨Or.inl q348, List.forall_mem_cons.mpr ⟨Or.inl q365, List.forall_mem_cons.mpr ⟨Or.inl q323, List.forall_mem_cons.mpr ⟨Or.inl q366, List.forall_mem_cons.mpr ⟨Or.inl q325, List.forall_mem_cons.mpr ⟨Or.inl q367, List.forall_mem_cons.mpr ⟨Or.inl q327, List.forall_mem_cons.mpr ⟨Or.inl q337, List.forall_mem_cons.mpr ⟨Or.inr (Or.inr (Or.inl rfl)), List.forall_mem_cons.mpr ⟨Or.inl q339, List.forall_mem_cons.mpr ⟨Or.inr (Or.inr (Or.inr rfl)), List.forall_mem_cons.mpr ⟨Or.inl q329, List.forall_mem_cons.mpr ⟨Or.inl q357, List.forall_mem_cons.mpr ⟨Or.inl q358, List.forall_mem_cons.mpr ⟨Or.inl q359, List.forall_mem_cons.mpr ⟨Or.inl q360, List.forall_mem_cons.mpr ⟨Or.inr (Or.inl (qnw_in q316 rfl)), List.forall_mem_cons.mpr ⟨Or.inl q360, List.forall_mem_cons.mpr ⟨Or.inl q361, List.forall_mem_cons.mpr ⟨Or.inl q362, List.forall_mem_cons.mpr ⟨Or.inl q334, List.forall_mem_cons.mpr ⟨Or.inr (Or.inl (qnw_in q318 rfl)), List.forall_mem_cons.mpr ⟨Or.inl q597, List.forall_mem_cons.mpr ⟨Or.inl q344, List.forall_mem_cons.mpr ⟨Or.inl q332, List.forall_mem_cons.mpr ⟨Or.inl q331, List.forall_mem_cons.mpr ⟨Or.inl q598, List.forall_mem_cons.mpr ⟨Or.inl q599, List.forall_mem_cons.mpr ⟨Or.inl q600, fun _ h => nomatch h⟩⟩⟩⟩⟩⟩⟩⟩⟩⟩⟩⟩⟩⟩⟩⟩⟩⟩⟩⟩⟩⟩⟩⟩⟩⟩⟩⟩⟩⟩⟩⟩⟩⟩⟩⟩⟩⟩⟩⟩⟩
theorem exf_11 : ExF 11 3 RX8 "BarnPictures$Refusal" ["java/lang/Exception"] TX8 TO15 7 1 := ⟨Or.inr ⟨_, qnw_in q606 rfl⟩, by decide +kernel, by decide +kernel, exw_11, q357, q358, rfl, in_X8, ⟨tyX8, tyX8_ok⟩, nmX8, by decide, rfl, rfl, rfl, rfl, rfl, rfl, by decide +kernel, fun q h => by simp [fs_ex, fs_10, fs_13] at h⟩
theorem exw_12 : ∀ w ∈ exL "BarnPictures$TextFault" "java/lang/Exception" [], exW w := List.forall_mem_cons.mpr ⟨Or.inl q60, List.forall_mem_cons.mpr ⟨Or.inl q333, List.forall_mem_cons.mpr ⟨Or.inl q342, List.forall_mem_cons.mpr ⟨Or.inl q347, List.forall_mem_cons.mpr ⟨Or.inl q350, List.forall_mem_cons.mpr ⟨Or.inl q352, List.forall_mem_cons.mpr ⟨Or.inl q334, List.forall_mem_cons.mpr ⟨Or.inl q335, List.forall_mem_cons.mpr ⟨Or.inl q82, List.forall_mem_cons.mpr ⟨Or.inl q83, List.forall_mem_cons.mpr ⟨Or.inl q336, List.forall_mem_cons.mpr ⟨Or.inl q341, List.forall_mem_cons.mpr ⟨Or.inl q348, List.forall_mem_cons.mpr ⟨Or.inl q365, List.forall_mem_cons.mpr ⟨Or.inl q323, List.forall_mem_cons.mpr ⟨Or.inl q366, List.forall_mem_cons.mpr ⟨Or.inl q325, List.forall_mem_cons.mpr ⟨Or.inl q367, List.forall_mem_cons.mpr ⟨Or.inl q327, List.forall_mem_cons.mpr ⟨Or.inl q337, List.forall_mem_cons.mpr ⟨Or.inr (Or.inr (Or.inl rfl)), List.forall_mem_cons.mpr ⟨Or.inl q339, List.forall_mem_cons.mpr ⟨Or.inr (Or.inr (Or.inr rfl)), List.forall_mem_cons.mpr ⟨Or.inl q329, List.forall_mem_cons.mpr ⟨Or.inl q360, List.forall_mem_cons.mpr ⟨Or.inl q361, List.forall_mem_cons.mpr ⟨Or.inl q362, List.forall_mem_cons.mpr ⟨Or.inl q334, List.forall_mem_cons.mpr ⟨Or.inr (Or.inl (qnw_in q318 rfl)), List.forall_mem_cons.mpr ⟨Or.inl q896, List.forall_mem_cons.mpr ⟨Or.inl q346, List.forall_mem_cons.mpr ⟨Or.inl q332, List.forall_mem_cons.mpr ⟨Or.inl q331, List.forall_mem_cons.mpr ⟨Or.inl q897, List.forall_mem_cons.mpr ⟨Or.inl q898, List.forall_mem_cons.mpr ⟨Or.inl q899, fun _ h => nomatch h⟩⟩⟩⟩⟩⟩⟩⟩⟩⟩⟩⟩⟩⟩⟩⟩⟩⟩⟩⟩⟩⟩⟩⟩⟩⟩⟩⟩⟩⟩⟩⟩⟩⟩⟩⟩
theorem exf_12 : ExF 12 1 RX10 "java/lang/Exception" [] TX10 TO16 7 1 := ⟨Or.inl q905, by decide +kernel, by decide +kernel, exw_12, q360, q361, rfl, in_X10, ⟨tyX10, tyX10_ok⟩, nmX10, by decide, rfl, rfl, rfl, rfl, rfl, rfl, by decide +kernel, fun q h => by simp [fs_ex, fs_10, fs_13] at h⟩
theorem exw_13 : ∀ w ∈ exL "BarnPictures$Stop" "java/lang/Exception" [], exW w := List.forall_mem_cons.mpr ⟨Or.inl q60, List.forall_mem_cons.mpr ⟨Or.inl q333, List.forall_mem_cons.mpr ⟨Or.inl q342, List.forall_mem_cons.mpr ⟨Or.inl q347, List.forall_mem_cons.mpr ⟨Or.inl q350, List.forall_mem_cons.mpr ⟨Or.inl q352, List.forall_mem_cons.mpr ⟨Or.inl q334, List.forall_mem_cons.mpr ⟨Or.inl q335, List.forall_mem_cons.mpr ⟨Or.inl q82, List.forall_mem_cons.mpr ⟨Or.inl q83, List.forall_mem_cons.mpr ⟨Or.inl q336, List.forall_mem_cons.mpr ⟨Or.inl q341, List.forall_mem_cons.mpr ⟨Or.inl q348, List.forall_mem_cons.mpr ⟨Or.inl q365, List.forall_mem_cons.mpr ⟨Or.inl q323, List.forall_mem_cons.mpr ⟨Or.inl q366, List.forall_mem_cons.mpr ⟨Or.inl q325, List.forall_mem_cons.mpr ⟨Or.inl q367, List.forall_mem_cons.mpr ⟨Or.inl q327, List.forall_mem_cons.mpr ⟨Or.inl q337, List.forall_mem_cons.mpr ⟨Or.inr (Or.inr (Or.inl rfl)), List.forall_mem_cons.mpr ⟨Or.inl q339, List.forall_mem_cons.mpr ⟨Or.inr (Or.inr (Or.inr rfl)), List.forall_mem_cons.mpr ⟨Or.inl q329, List.forall_mem_cons.mpr ⟨Or.inl q360, List.forall_mem_cons.mpr ⟨Or.inl q361, List.forall_mem_cons.mpr ⟨Or.inl q362, List.forall_mem_cons.mpr ⟨Or.inl q334, List.forall_mem_cons.mpr ⟨Or.inr (Or.inl (qnw_in q318 rfl)), List.forall_mem_cons.mpr ⟨Or.inl q981, List.forall_mem_cons.mpr ⟨Or.inl q345, List.forall_mem_cons.mpr ⟨Or.inl q332, List.forall_mem_cons.mpr ⟨Or.inl q331, List.forall_mem_cons.mpr ⟨Or.inl q982, List.forall_mem_cons.mpr ⟨Or.inl q983, List.forall_mem_cons.mpr ⟨Or.inl q984, fun _ h => nomatch h⟩⟩⟩⟩⟩⟩⟩⟩⟩⟩⟩⟩⟩⟩⟩⟩⟩⟩⟩⟩⟩⟩⟩⟩⟩⟩⟩⟩⟩⟩⟩⟩⟩⟩⟩⟩
theorem exf_13 : ExF 13 1 RX12 "java/lang/Exception" [] TX12 TO17 8 2 := ⟨Or.inl q990, by decide +kernel, by decide +kernel, exw_13, q360, q361, rfl, in_X12, ⟨tyX12, tyX12_ok⟩, nmX12, by decide, rfl, rfl, rfl, rfl, rfl, rfl, by decide +kernel, fun q h => by simp [fs_ex, fs_10, fs_13] at h⟩
theorem pf_X2_10 : ∀ x ∈ ([(2, 0), (3, 0)] : List (Nat × Nat)), PF RX2 10 x.1 x.2 .int false := List.forall_mem_cons.mpr ⟨⟨_, _, _, "BarnPictures$Thing", qcl_2, by decide, Or.inl ⟨q115, Or.inl rfl⟩, rfl, by decide +kernel, fun h => nomatch h⟩, List.forall_mem_cons.mpr ⟨⟨_, _, _, "BarnPictures$Thing", qcl_3, by decide, Or.inl ⟨q115, Or.inl rfl⟩, rfl, by decide +kernel, fun h => nomatch h⟩, fun _ h => nomatch h⟩⟩
theorem cf_X3_3 : CfIN RX3 3 yX2_init cX2_init 1 0 := ⟨⟨⟨_, qnw_in q98 rfl⟩, q99, q48, q100, rfl⟩, by decide +kernel, by decide +kernel, by decide +kernel⟩
theorem pf_X3_9 : ∀ x ∈ ([(2, 1)] : List (Nat × Nat)), PF RX3 9 x.1 x.2 .int true := List.forall_mem_cons.mpr ⟨⟨_, _, _, "BarnPictures$Reel", qcl_2, by decide, Or.inl ⟨q103, Or.inl rfl⟩, rfl, by decide +kernel, fun _ => ⟨rfl, q103, rfl⟩⟩, fun _ h => nomatch h⟩
theorem pf_X3_15 : ∀ x ∈ ([(2, 2)] : List (Nat × Nat)), PF RX3 15 x.1 x.2 .int false := List.forall_mem_cons.mpr ⟨⟨_, _, _, "BarnPictures$Reel", qcl_2, by decide, Or.inl ⟨q104, Or.inl rfl⟩, rfl, by decide +kernel, fun h => nomatch h⟩, fun _ h => nomatch h⟩
theorem cf_X4_3 : CfIN RX4 3 yX2_init cX2_init 1 0 := ⟨⟨⟨_, qnw_in q138 rfl⟩, q99, q48, q100, rfl⟩, by decide +kernel, by decide +kernel, by decide +kernel⟩
theorem pf_X4_9 : ∀ x ∈ ([(3, 1)] : List (Nat × Nat)), PF RX4 9 x.1 x.2 .int false := List.forall_mem_cons.mpr ⟨⟨_, _, _, "BarnPictures$Generator", qcl_3, by decide, Or.inl ⟨q139, Or.inl rfl⟩, rfl, by decide +kernel, fun h => nomatch h⟩, fun _ h => nomatch h⟩
theorem pf_X1_11 : ∀ x ∈ ([(1, 0)] : List (Nat × Nat)), PF RX1 11 x.1 x.2 (.array (.object "BarnPictures$Reel")) true := List.forall_mem_cons.mpr ⟨⟨_, _, _, "BarnPictures$Tour", qcl_1, by decide, Or.inl ⟨q147, Or.inl rfl⟩, rfl, by decide +kernel, fun _ => ⟨rfl, q147, rfl⟩⟩, fun _ h => nomatch h⟩
theorem pf_X1_19 : ∀ x ∈ ([(1, 1)] : List (Nat × Nat)), PF RX1 19 x.1 x.2 (.array (.object "BarnPictures$Generator")) true := List.forall_mem_cons.mpr ⟨⟨_, _, _, "BarnPictures$Tour", qcl_1, by decide, Or.inl ⟨q149, Or.inl rfl⟩, rfl, by decide +kernel, fun _ => ⟨rfl, q149, rfl⟩⟩, fun _ h => nomatch h⟩
theorem pf_X1_23 : ∀ x ∈ ([(1, 2)] : List (Nat × Nat)), PF RX1 23 x.1 x.2 (.array .int) true := List.forall_mem_cons.mpr ⟨⟨_, _, _, "BarnPictures$Tour", qcl_1, by decide, Or.inl ⟨q152, Or.inl rfl⟩, rfl, by decide +kernel, fun _ => ⟨rfl, q152, rfl⟩⟩, fun _ h => nomatch h⟩
theorem pf_X1_27 : ∀ x ∈ ([(1, 3)] : List (Nat × Nat)), PF RX1 27 x.1 x.2 (.array .int) true := List.forall_mem_cons.mpr ⟨⟨_, _, _, "BarnPictures$Tour", qcl_1, by decide, Or.inl ⟨q153, Or.inl rfl⟩, rfl, by decide +kernel, fun _ => ⟨rfl, q153, rfl⟩⟩, fun _ h => nomatch h⟩
theorem pf_X1_30 : ∀ x ∈ ([(1, 4)] : List (Nat × Nat)), PF RX1 30 x.1 x.2 (.array .int) true := List.forall_mem_cons.mpr ⟨⟨_, _, _, "BarnPictures$Tour", qcl_1, by decide, Or.inl ⟨q155, Or.inl rfl⟩, rfl, by decide +kernel, fun _ => ⟨rfl, q155, rfl⟩⟩, fun _ h => nomatch h⟩
theorem pf_X1_33 : ∀ x ∈ ([(1, 5)] : List (Nat × Nat)), PF RX1 33 x.1 x.2 (.array .int) true := List.forall_mem_cons.mpr ⟨⟨_, _, _, "BarnPictures$Tour", qcl_1, by decide, Or.inl ⟨q157, Or.inl rfl⟩, rfl, by decide +kernel, fun _ => ⟨rfl, q157, rfl⟩⟩, fun _ h => nomatch h⟩
theorem pf_X1_36 : ∀ x ∈ ([(1, 8)] : List (Nat × Nat)), PF RX1 36 x.1 x.2 .int false := List.forall_mem_cons.mpr ⟨⟨_, _, _, "BarnPictures$Tour", qcl_1, by decide, Or.inl ⟨q164, Or.inl rfl⟩, rfl, by decide +kernel, fun h => nomatch h⟩, fun _ h => nomatch h⟩
theorem gf_X1_11 : ∀ x ∈ ([(1, 0)] : List (Nat × Nat)), GF RX1 11 x.1 x.2 := List.forall_mem_cons.mpr ⟨⟨_, _, _, "BarnPictures$Tour", qcl_1, by decide, Or.inl ⟨q147, Or.inl rfl⟩⟩, fun _ h => nomatch h⟩
theorem nf_X1_9 : qNf RX1 9 2 6 fs_2 := ⟨_, _, _, tyX3, rfl, in_X3, tyX3_ok, q90, q94, q49, fd_2, fn_2⟩
theorem cf_X1_40 : CfI RX1 40 yX3_init cX3_init 2 1 := ⟨⟨q95, q96, q49, q97, rfl⟩, by decide +kernel, by decide +kernel, by decide +kernel⟩
theorem gf_X1_19 : ∀ x ∈ ([(1, 1)] : List (Nat × Nat)), GF RX1 19 x.1 x.2 := List.forall_mem_cons.mpr ⟨⟨_, _, _, "BarnPictures$Tour", qcl_1, by decide, Or.inl ⟨q149, Or.inl rfl⟩⟩, fun _ h => nomatch h⟩
theorem nf_X1_17 : qNf RX1 17 3 2 fs_3 := ⟨_, _, _, tyX4, rfl, in_X4, tyX4_ok, q92, q134, q50, fd_3, fn_3⟩
theorem cf_X1_43 : CfIN RX1 43 yX4_init cX4_init 1 0 := ⟨⟨⟨_, qnw_in q135 rfl⟩, q136, q50, q137, rfl⟩, by decide +kernel, by decide +kernel, by decide +kernel⟩
theorem gf_X1_23 : ∀ x ∈ ([(1, 2)] : List (Nat × Nat)), GF RX1 23 x.1 x.2 := List.forall_mem_cons.mpr ⟨⟨_, _, _, "BarnPictures$Tour", qcl_1, by decide, Or.inl ⟨q152, Or.inl rfl⟩⟩, fun _ h => nomatch h⟩
theorem cf_J1_1 : CfI RJ1 1 yJ0_init cJ0_init 1 0 := ⟨⟨q213, q214, q51, q215, rfl⟩, by decide +kernel, by decide +kernel, by decide +kernel⟩
theorem pf_J1_7 : ∀ x ∈ ([(7, 0)] : List (Nat × Nat)), PF RJ1 7 x.1 x.2 .int false := List.forall_mem_cons.mpr ⟨⟨_, _, _, "java/util/AbstractList", qcl_7, by decide, Or.inl ⟨q221, Or.inl rfl⟩, rfl, by decide +kernel, fun h => nomatch h⟩, fun _ h => nomatch h⟩
theorem cf_J2_1 : CfI RJ2 1 yJ1_init cJ1_init 1 0 := ⟨⟨q210, q211, q52, q212, rfl⟩, by decide +kernel, by decide +kernel, by decide +kernel⟩
theorem pf_J2_9 : ∀ x ∈ ([(7, 1)] : List (Nat × Nat)), PF RJ2 9 x.1 x.2 (.array (.object "java/lang/Object")) false := List.forall_mem_cons.mpr ⟨⟨_, _, _, "java/util/ArrayList", qcl_7, by decide, Or.inl ⟨q219, Or.inl rfl⟩, rfl, by decide +kernel, fun h => nomatch h⟩, fun _ h => nomatch h⟩
theorem cf_J6_11 : CfS RJ6 11 yJ6_newBytesLength cJ6_newBytesLength 1 (some .int) 1 := ⟨⟨q245, q246, q57, q247⟩, by decide +kernel, by decide +kernel, by decide +kernel⟩
theorem cf_J3_26 : CfS RJ3 26 yJ6_newBytesFor cJ6_newBytesFor 1 (some (.array .byte)) 1 := ⟨⟨q242, q243, q57, q244⟩, by decide +kernel, by decide +kernel, by decide +kernel⟩
theorem pf_J3_15 : ∀ x ∈ ([(8, 0)] : List (Nat × Nat)), PF RJ3 15 x.1 x.2 (.array .byte) false := List.forall_mem_cons.mpr ⟨⟨_, _, _, "java/lang/AbstractStringBuilder", qcl_8, by decide, Or.inl ⟨q249, Or.inl rfl⟩, rfl, by decide +kernel, fun h => nomatch h⟩, fun _ h => nomatch h⟩
theorem pf_J3_22 : ∀ x ∈ ([(8, 1)] : List (Nat × Nat)), PF RJ3 22 x.1 x.2 .byte false := List.forall_mem_cons.mpr ⟨⟨_, _, _, "java/lang/AbstractStringBuilder", qcl_8, by decide, Or.inl ⟨q250, Or.inl rfl⟩, rfl, by decide +kernel, fun h => nomatch h⟩, fun _ h => nomatch h⟩
theorem cf_J4_1 : CfI RJ4 1 yJ3_init cJ3_init 2 1 := ⟨⟨q236, q237, q54, q238, rfl⟩, by decide +kernel, by decide +kernel, by decide +kernel⟩
theorem nf_X0_19 : qNf RX0 19 1 14 fs_1 := ⟨_, _, _, tyX1, rfl, in_X1, tyX1_ok, q84, q85, q47, fd_1, fn_1⟩
theorem cf_X0_21 : CfI RX0 21 yX1_init cX1_init 2 0 := ⟨⟨q86, q87, q47, q88, rfl⟩, by decide +kernel, by decide +kernel, by decide +kernel⟩
theorem pf_X0_22 : ∀ x ∈ ([(0, 0)] : List (Nat × Nat)), PF RX0 22 x.1 x.2 (.object "BarnPictures$Tour") false := List.forall_mem_cons.mpr ⟨⟨_, _, _, "BarnPictures", qcl_0, by decide, Or.inl ⟨q263, Or.inl rfl⟩, rfl, by decide +kernel, fun h => nomatch h⟩, fun _ h => nomatch h⟩
theorem nf_X0_26 : qNf RX0 26 7 3 fs_7 := ⟨_, _, _, tyJ2, rfl, in_J2, tyJ2_ok, q205, q206, q53, fd_7, fn_7⟩
theorem cf_X0_28 : CfI RX0 28 yJ2_init cJ2_init 1 0 := ⟨⟨q207, q208, q53, q209, rfl⟩, by decide +kernel, by decide +kernel, by decide +kernel⟩
theorem pf_X0_29 : ∀ x ∈ ([(0, 2)] : List (Nat × Nat)), PF RX0 29 x.1 x.2 (.object "java/util/List") true := List.forall_mem_cons.mpr ⟨⟨_, _, _, "BarnPictures", qcl_0, by decide, Or.inl ⟨q265, Or.inl rfl⟩, rfl, by decide +kernel, fun _ => ⟨rfl, q265, rfl⟩⟩, fun _ h => nomatch h⟩
theorem nf_X0_33 : qNf RX0 33 8 4 fs_8 := ⟨_, _, _, tyJ4, rfl, in_J4, tyJ4_ok, q231, q232, q55, fd_8, fn_8⟩
theorem cf_X0_35 : CfI RX0 35 yJ4_init cJ4_init 1 0 := ⟨⟨q233, q234, q55, q235, rfl⟩, by decide +kernel, by decide +kernel, by decide +kernel⟩
theorem pf_X0_36 : ∀ x ∈ ([(0, 3)] : List (Nat × Nat)), PF RX0 36 x.1 x.2 (.object "java/lang/StringBuilder") true := List.forall_mem_cons.mpr ⟨⟨_, _, _, "BarnPictures", qcl_0, by decide, Or.inl ⟨q266, Or.inl rfl⟩, rfl, by decide +kernel, fun _ => ⟨rfl, q266, rfl⟩⟩, fun _ h => nomatch h⟩
theorem pf_X5_7 : ∀ x ∈ ([(4, 0)] : List (Nat × Nat)), PF RX5 7 x.1 x.2 (.array .int) true := List.forall_mem_cons.mpr ⟨⟨_, _, _, "BarnPicturesModel", qcl_4, by decide, Or.inl ⟨q1096, Or.inl rfl⟩, rfl, by decide +kernel, fun _ => ⟨rfl, q1096, rfl⟩⟩, fun _ h => nomatch h⟩
theorem pf_X5_13 : ∀ x ∈ ([(4, 1)] : List (Nat × Nat)), PF RX5 13 x.1 x.2 (.array .int) true := List.forall_mem_cons.mpr ⟨⟨_, _, _, "BarnPicturesModel", qcl_4, by decide, Or.inl ⟨q1097, Or.inl rfl⟩, rfl, by decide +kernel, fun _ => ⟨rfl, q1097, rfl⟩⟩, fun _ h => nomatch h⟩
theorem pf_X5_16 : ∀ x ∈ ([(4, 2)] : List (Nat × Nat)), PF RX5 16 x.1 x.2 (.array .int) true := List.forall_mem_cons.mpr ⟨⟨_, _, _, "BarnPicturesModel", qcl_4, by decide, Or.inl ⟨q1098, Or.inl rfl⟩, rfl, by decide +kernel, fun _ => ⟨rfl, q1098, rfl⟩⟩, fun _ h => nomatch h⟩
theorem pf_X5_19 : ∀ x ∈ ([(4, 4)] : List (Nat × Nat)), PF RX5 19 x.1 x.2 (.array .int) true := List.forall_mem_cons.mpr ⟨⟨_, _, _, "BarnPicturesModel", qcl_4, by decide, Or.inl ⟨q1100, Or.inl rfl⟩, rfl, by decide +kernel, fun _ => ⟨rfl, q1100, rfl⟩⟩, fun _ h => nomatch h⟩
theorem pf_X5_22 : ∀ x ∈ ([(4, 6)] : List (Nat × Nat)), PF RX5 22 x.1 x.2 (.array .int) true := List.forall_mem_cons.mpr ⟨⟨_, _, _, "BarnPicturesModel", qcl_4, by decide, Or.inl ⟨q1102, Or.inl rfl⟩, rfl, by decide +kernel, fun _ => ⟨rfl, q1102, rfl⟩⟩, fun _ h => nomatch h⟩
theorem pf_X5_26 : ∀ x ∈ ([(4, 8)] : List (Nat × Nat)), PF RX5 26 x.1 x.2 .int false := List.forall_mem_cons.mpr ⟨⟨_, _, _, "BarnPicturesModel", qcl_4, by decide, Or.inl ⟨q1104, Or.inl rfl⟩, rfl, by decide +kernel, fun h => nomatch h⟩, fun _ h => nomatch h⟩
theorem pf_X5_30 : ∀ x ∈ ([(4, 9)] : List (Nat × Nat)), PF RX5 30 x.1 x.2 .int false := List.forall_mem_cons.mpr ⟨⟨_, _, _, "BarnPicturesModel", qcl_4, by decide, Or.inl ⟨q1105, Or.inl rfl⟩, rfl, by decide +kernel, fun h => nomatch h⟩, fun _ h => nomatch h⟩
theorem gf_X5_7 : ∀ x ∈ ([(4, 0)] : List (Nat × Nat)), GF RX5 7 x.1 x.2 := List.forall_mem_cons.mpr ⟨⟨_, _, _, "BarnPicturesModel", qcl_4, by decide, Or.inl ⟨q1096, Or.inl rfl⟩⟩, fun _ h => nomatch h⟩
theorem cf_X5_33 : CfS RX5 33 yX5_of cX5_of 2 (some .int) 2 := ⟨⟨q1093, q1094, q58, q1095⟩, by decide +kernel, by decide +kernel, by decide +kernel⟩
theorem nf_X3_10 : qNf RX3 10 2 6 fs_2 := ⟨_, _, _, tyX3, rfl, in_X3, tyX3_ok, q291, q94, q49, fd_2, fn_2⟩
theorem gf_X3_9 : ∀ x ∈ ([(2, 1)] : List (Nat × Nat)), GF RX3 9 x.1 x.2 := List.forall_mem_cons.mpr ⟨⟨_, _, _, "BarnPictures$Reel", qcl_2, by decide, Or.inl ⟨q103, Or.inl rfl⟩⟩, fun _ h => nomatch h⟩
theorem cf_X3_18 : CfI RX3 18 yX3_init cX3_init 2 1 := ⟨⟨q292, q96, q49, q97, rfl⟩, by decide +kernel, by decide +kernel, by decide +kernel⟩
theorem gf_X3_21 : ∀ x ∈ ([(2, 0), (3, 0)] : List (Nat × Nat)), GF RX3 21 x.1 x.2 := List.forall_mem_cons.mpr ⟨⟨_, _, _, "BarnPictures$Thing", qcl_2, by decide, Or.inr ⟨_, qnw_in q117 rfl, rfl⟩⟩, List.forall_mem_cons.mpr ⟨⟨_, _, _, "BarnPictures$Thing", qcl_3, by decide, Or.inr ⟨_, qnw_in q117 rfl, rfl⟩⟩, fun _ h => nomatch h⟩⟩
theorem pf_X3_21 : ∀ x ∈ ([(2, 0), (3, 0)] : List (Nat × Nat)), PF RX3 21 x.1 x.2 .int false := List.forall_mem_cons.mpr ⟨⟨_, _, _, "BarnPictures$Thing", qcl_2, by decide, Or.inr ⟨_, qnw_in q117 rfl, rfl⟩, rfl, by decide +kernel, fun h => nomatch h⟩, List.forall_mem_cons.mpr ⟨⟨_, _, _, "BarnPictures$Thing", qcl_3, by decide, Or.inr ⟨_, qnw_in q117 rfl, rfl⟩, rfl, by decide +kernel, fun h => nomatch h⟩, fun _ h => nomatch h⟩⟩
theorem gf_X3_15 : ∀ x ∈ ([(2, 2)] : List (Nat × Nat)), GF RX3 15 x.1 x.2 := List.forall_mem_cons.mpr ⟨⟨_, _, _, "BarnPictures$Reel", qcl_2, by decide, Or.inl ⟨q104, Or.inl rfl⟩⟩, fun _ h => nomatch h⟩
theorem gf_X3_24 : ∀ x ∈ ([(2, 3)] : List (Nat × Nat)), GF RX3 24 x.1 x.2 := List.forall_mem_cons.mpr ⟨⟨_, _, _, "BarnPictures$Reel", qcl_2, by decide, Or.inl ⟨q107, Or.inl rfl⟩⟩, fun _ h => nomatch h⟩
theorem pf_X3_24 : ∀ x ∈ ([(2, 3)] : List (Nat × Nat)), PF RX3 24 x.1 x.2 .int false := List.forall_mem_cons.mpr ⟨⟨_, _, _, "BarnPictures$Reel", qcl_2, by decide, Or.inl ⟨q107, Or.inl rfl⟩, rfl, by decide +kernel, fun h => nomatch h⟩, fun _ h => nomatch h⟩
theorem gf_X3_27 : ∀ x ∈ ([(2, 4)] : List (Nat × Nat)), GF RX3 27 x.1 x.2 := List.forall_mem_cons.mpr ⟨⟨_, _, _, "BarnPictures$Reel", qcl_2, by decide, Or.inl ⟨q110, Or.inl rfl⟩⟩, fun _ h => nomatch h⟩
theorem pf_X3_27 : ∀ x ∈ ([(2, 4)] : List (Nat × Nat)), PF RX3 27 x.1 x.2 .int false := List.forall_mem_cons.mpr ⟨⟨_, _, _, "BarnPictures$Reel", qcl_2, by decide, Or.inl ⟨q110, Or.inl rfl⟩, rfl, by decide +kernel, fun h => nomatch h⟩, fun _ h => nomatch h⟩
theorem gf_X3_30 : ∀ x ∈ ([(2, 5)] : List (Nat × Nat)), GF RX3 30 x.1 x.2 := List.forall_mem_cons.mpr ⟨⟨_, _, _, "BarnPictures$Reel", qcl_2, by decide, Or.inl ⟨q112, Or.inl rfl⟩⟩, fun _ h => nomatch h⟩
theorem pf_X3_30 : ∀ x ∈ ([(2, 5)] : List (Nat × Nat)), PF RX3 30 x.1 x.2 .int false := List.forall_mem_cons.mpr ⟨⟨_, _, _, "BarnPictures$Reel", qcl_2, by decide, Or.inl ⟨q112, Or.inl rfl⟩, rfl, by decide +kernel, fun h => nomatch h⟩, fun _ h => nomatch h⟩
theorem nf_X4_10 : qNf RX4 10 3 2 fs_3 := ⟨_, _, _, tyX4, rfl, in_X4, tyX4_ok, q297, q134, q50, fd_3, fn_3⟩
theorem cf_X4_15 : CfI RX4 15 yX4_init cX4_init 1 0 := ⟨⟨q298, q136, q50, q137, rfl⟩, by decide +kernel, by decide +kernel, by decide +kernel⟩
theorem gf_X4_16 : ∀ x ∈ ([(2, 0), (3, 0)] : List (Nat × Nat)), GF RX4 16 x.1 x.2 := List.forall_mem_cons.mpr ⟨⟨_, _, _, "BarnPictures$Thing", qcl_2, by decide, Or.inr ⟨_, qnw_in q116 rfl, rfl⟩⟩, List.forall_mem_cons.mpr ⟨⟨_, _, _, "BarnPictures$Thing", qcl_3, by decide, Or.inr ⟨_, qnw_in q116 rfl, rfl⟩⟩, fun _ h => nomatch h⟩⟩
theorem pf_X4_16 : ∀ x ∈ ([(2, 0), (3, 0)] : List (Nat × Nat)), PF RX4 16 x.1 x.2 .int false := List.forall_mem_cons.mpr ⟨⟨_, _, _, "BarnPictures$Thing", qcl_2, by decide, Or.inr ⟨_, qnw_in q116 rfl, rfl⟩, rfl, by decide +kernel, fun h => nomatch h⟩, List.forall_mem_cons.mpr ⟨⟨_, _, _, "BarnPictures$Thing", qcl_3, by decide, Or.inr ⟨_, qnw_in q116 rfl, rfl⟩, rfl, by decide +kernel, fun h => nomatch h⟩, fun _ h => nomatch h⟩⟩
theorem gf_X4_9 : ∀ x ∈ ([(3, 1)] : List (Nat × Nat)), GF RX4 9 x.1 x.2 := List.forall_mem_cons.mpr ⟨⟨_, _, _, "BarnPictures$Generator", qcl_3, by decide, Or.inl ⟨q139, Or.inl rfl⟩⟩, fun _ h => nomatch h⟩
theorem cf_X1_45 : CfV RX1 45 RX3 yX3_copy cX3_copy 2 (some (.object "BarnPictures$Reel")) 0 := ⟨⟨q287, q288, q289, q49, q290⟩, rfl, by decide +kernel, by decide +kernel, by decide +kernel⟩
theorem gf_X1_27 : ∀ x ∈ ([(1, 3)] : List (Nat × Nat)), GF RX1 27 x.1 x.2 := List.forall_mem_cons.mpr ⟨⟨_, _, _, "BarnPictures$Tour", qcl_1, by decide, Or.inl ⟨q153, Or.inl rfl⟩⟩, fun _ h => nomatch h⟩
theorem gf_X1_30 : ∀ x ∈ ([(1, 4)] : List (Nat × Nat)), GF RX1 30 x.1 x.2 := List.forall_mem_cons.mpr ⟨⟨_, _, _, "BarnPictures$Tour", qcl_1, by decide, Or.inl ⟨q155, Or.inl rfl⟩⟩, fun _ h => nomatch h⟩
theorem gf_X1_33 : ∀ x ∈ ([(1, 5)] : List (Nat × Nat)), GF RX1 33 x.1 x.2 := List.forall_mem_cons.mpr ⟨⟨_, _, _, "BarnPictures$Tour", qcl_1, by decide, Or.inl ⟨q157, Or.inl rfl⟩⟩, fun _ h => nomatch h⟩
theorem gf_X1_58 : ∀ x ∈ ([(1, 6)] : List (Nat × Nat)), GF RX1 58 x.1 x.2 := List.forall_mem_cons.mpr ⟨⟨_, _, _, "BarnPictures$Tour", qcl_1, by decide, Or.inl ⟨q160, Or.inl rfl⟩⟩, fun _ h => nomatch h⟩
theorem pf_X1_58 : ∀ x ∈ ([(1, 6)] : List (Nat × Nat)), PF RX1 58 x.1 x.2 .int false := List.forall_mem_cons.mpr ⟨⟨_, _, _, "BarnPictures$Tour", qcl_1, by decide, Or.inl ⟨q160, Or.inl rfl⟩, rfl, by decide +kernel, fun h => nomatch h⟩, fun _ h => nomatch h⟩
theorem gf_X1_61 : ∀ x ∈ ([(1, 7)] : List (Nat × Nat)), GF RX1 61 x.1 x.2 := List.forall_mem_cons.mpr ⟨⟨_, _, _, "BarnPictures$Tour", qcl_1, by decide, Or.inl ⟨q162, Or.inl rfl⟩⟩, fun _ h => nomatch h⟩
theorem pf_X1_61 : ∀ x ∈ ([(1, 7)] : List (Nat × Nat)), PF RX1 61 x.1 x.2 .int false := List.forall_mem_cons.mpr ⟨⟨_, _, _, "BarnPictures$Tour", qcl_1, by decide, Or.inl ⟨q162, Or.inl rfl⟩, rfl, by decide +kernel, fun h => nomatch h⟩, fun _ h => nomatch h⟩
theorem gf_X1_36 : ∀ x ∈ ([(1, 8)] : List (Nat × Nat)), GF RX1 36 x.1 x.2 := List.forall_mem_cons.mpr ⟨⟨_, _, _, "BarnPictures$Tour", qcl_1, by decide, Or.inl ⟨q164, Or.inl rfl⟩⟩, fun _ h => nomatch h⟩
theorem gf_X1_64 : ∀ x ∈ ([(1, 9)] : List (Nat × Nat)), GF RX1 64 x.1 x.2 := List.forall_mem_cons.mpr ⟨⟨_, _, _, "BarnPictures$Tour", qcl_1, by decide, Or.inl ⟨q166, Or.inl rfl⟩⟩, fun _ h => nomatch h⟩
theorem pf_X1_64 : ∀ x ∈ ([(1, 9)] : List (Nat × Nat)), PF RX1 64 x.1 x.2 .int false := List.forall_mem_cons.mpr ⟨⟨_, _, _, "BarnPictures$Tour", qcl_1, by decide, Or.inl ⟨q166, Or.inl rfl⟩, rfl, by decide +kernel, fun h => nomatch h⟩, fun _ h => nomatch h⟩
theorem gf_X1_67 : ∀ x ∈ ([(1, 10)] : List (Nat × Nat)), GF RX1 67 x.1 x.2 := List.forall_mem_cons.mpr ⟨⟨_, _, _, "BarnPictures$Tour", qcl_1, by decide, Or.inl ⟨q168, Or.inl rfl⟩⟩, fun _ h => nomatch h⟩
theorem pf_X1_67 : ∀ x ∈ ([(1, 10)] : List (Nat × Nat)), PF RX1 67 x.1 x.2 .int false := List.forall_mem_cons.mpr ⟨⟨_, _, _, "BarnPictures$Tour", qcl_1, by decide, Or.inl ⟨q168, Or.inl rfl⟩, rfl, by decide +kernel, fun h => nomatch h⟩, fun _ h => nomatch h⟩
theorem gf_X1_70 : ∀ x ∈ ([(1, 11)] : List (Nat × Nat)), GF RX1 70 x.1 x.2 := List.forall_mem_cons.mpr ⟨⟨_, _, _, "BarnPictures$Tour", qcl_1, by decide, Or.inl ⟨q170, Or.inl rfl⟩⟩, fun _ h => nomatch h⟩
theorem pf_X1_70 : ∀ x ∈ ([(1, 11)] : List (Nat × Nat)), PF RX1 70 x.1 x.2 .int false := List.forall_mem_cons.mpr ⟨⟨_, _, _, "BarnPictures$Tour", qcl_1, by decide, Or.inl ⟨q170, Or.inl rfl⟩, rfl, by decide +kernel, fun h => nomatch h⟩, fun _ h => nomatch h⟩
theorem gf_X1_73 : ∀ x ∈ ([(1, 12)] : List (Nat × Nat)), GF RX1 73 x.1 x.2 := List.forall_mem_cons.mpr ⟨⟨_, _, _, "BarnPictures$Tour", qcl_1, by decide, Or.inl ⟨q172, Or.inl rfl⟩⟩, fun _ h => nomatch h⟩
theorem pf_X1_73 : ∀ x ∈ ([(1, 12)] : List (Nat × Nat)), PF RX1 73 x.1 x.2 .int false := List.forall_mem_cons.mpr ⟨⟨_, _, _, "BarnPictures$Tour", qcl_1, by decide, Or.inl ⟨q172, Or.inl rfl⟩, rfl, by decide +kernel, fun h => nomatch h⟩, fun _ h => nomatch h⟩
theorem gf_X1_76 : ∀ x ∈ ([(1, 13)] : List (Nat × Nat)), GF RX1 76 x.1 x.2 := List.forall_mem_cons.mpr ⟨⟨_, _, _, "BarnPictures$Tour", qcl_1, by decide, Or.inl ⟨q174, Or.inl rfl⟩⟩, fun _ h => nomatch h⟩
theorem pf_X1_76 : ∀ x ∈ ([(1, 13)] : List (Nat × Nat)), PF RX1 76 x.1 x.2 .int false := List.forall_mem_cons.mpr ⟨⟨_, _, _, "BarnPictures$Tour", qcl_1, by decide, Or.inl ⟨q174, Or.inl rfl⟩, rfl, by decide +kernel, fun h => nomatch h⟩, fun _ h => nomatch h⟩
theorem cf_X1_49 : CfV RX1 49 RX4 yX4_copy cX4_copy 2 (some (.object "BarnPictures$Generator")) 0 := ⟨⟨q293, q294, q295, q50, q296⟩, rfl, by decide +kernel, by decide +kernel, by decide +kernel⟩
theorem pf_X7_7 : ∀ x ∈ ([(14, 0)] : List (Nat × Nat)), PF RX7 7 x.1 x.2 .int true := List.forall_mem_cons.mpr ⟨⟨_, _, _, "BarnPictures$Wrong", qcl_14, by decide, Or.inl ⟨q363, Or.inl rfl⟩, rfl, by decide +kernel, fun _ => ⟨rfl, q363, rfl⟩⟩, fun _ h => nomatch h⟩
theorem nf_X0_8 : qNf RX0 8 10 7 fs_10 := ⟨_, _, _, tyX7, rfl, in_X7, tyX7_ok, q283, q313, q63, fd_10, fn_10⟩
theorem cf_X0_10 : CfI RX0 10 yX7_init cX7_init 2 1 := ⟨⟨q353, q354, q63, q355, rfl⟩, by decide +kernel, by decide +kernel, by decide +kernel⟩
theorem cf_X0_4 : CfS RX0 4 yX0_pick cX0_pick 2 (some .int) 2 := ⟨⟨q381, q382, q46, q383⟩, by decide +kernel, by decide +kernel, by decide +kernel⟩
theorem cf_X1_79 : CfSN RX1 79 yX0_inRange cX0_inRange 3 (some .boolean) 3 := ⟨⟨⟨_, qnw_in q306 rfl⟩, q307, q46, q308⟩, by decide +kernel, by decide +kernel, by decide +kernel⟩
theorem cf_X1_127 : CfSN RX1 127 yX0_check cX0_check 2 none 2 := ⟨⟨⟨_, qnw_in q310 rfl⟩, q311, q46, q312⟩, by decide +kernel, by decide +kernel, by decide +kernel⟩
theorem cf_X1_131 : CfSN RX1 131 yX0_mileOf cX0_mileOf 1 (some .int) 1 := ⟨⟨⟨_, qnw_in q378 rfl⟩, q379, q46, q380⟩, by decide +kernel, by decide +kernel, by decide +kernel⟩
theorem gf_J2_48 : ∀ x ∈ ([(7, 2)] : List (Nat × Nat)), GF RJ2 48 x.1 x.2 := List.forall_mem_cons.mpr ⟨⟨_, _, _, "java/util/ArrayList", qcl_7, by decide, Or.inl ⟨q220, Or.inl rfl⟩⟩, fun _ h => nomatch h⟩
theorem cf_J10_105 : CfS RJ10 105 yJ11_checkIndex cJ11_checkIndex 3 (some .int) 3 := ⟨⟨q415, q416, q66, q417⟩, by decide +kernel, by decide +kernel, by decide +kernel⟩
theorem gf_J2_63 : ∀ x ∈ ([(7, 0)] : List (Nat × Nat)), GF RJ2 63 x.1 x.2 := List.forall_mem_cons.mpr ⟨⟨_, _, _, "java/util/ArrayList", qcl_7, by decide, Or.inl ⟨q222, Or.inr q223⟩⟩, fun _ h => nomatch h⟩
theorem pf_J2_63 : ∀ x ∈ ([(7, 0)] : List (Nat × Nat)), PF RJ2 63 x.1 x.2 .int false := List.forall_mem_cons.mpr ⟨⟨_, _, _, "java/util/ArrayList", qcl_7, by decide, Or.inl ⟨q222, Or.inr q223⟩, rfl, by decide +kernel, fun h => nomatch h⟩, fun _ h => nomatch h⟩
theorem pf_J2_48 : ∀ x ∈ ([(7, 2)] : List (Nat × Nat)), PF RJ2 48 x.1 x.2 .int false := List.forall_mem_cons.mpr ⟨⟨_, _, _, "java/util/ArrayList", qcl_7, by decide, Or.inl ⟨q220, Or.inl rfl⟩, rfl, by decide +kernel, fun h => nomatch h⟩, fun _ h => nomatch h⟩
theorem cf_J2_118 : CfS RJ2 118 yJ10_checkIndex cJ10_checkIndex 2 (some .int) 2 := ⟨⟨q412, q413, q65, q414⟩, by decide +kernel, by decide +kernel, by decide +kernel⟩
theorem gf_J2_9 : ∀ x ∈ ([(7, 1)] : List (Nat × Nat)), GF RJ2 9 x.1 x.2 := List.forall_mem_cons.mpr ⟨⟨_, _, _, "java/util/ArrayList", qcl_7, by decide, Or.inl ⟨q219, Or.inl rfl⟩⟩, fun _ h => nomatch h⟩
theorem cf_J2_144 : CfV RJ2 144 RJ2 yJ2_fastRemove cJ2_fastRemove 4 none 2 := ⟨⟨q418, q420, qs2, q53, q421⟩, rfl, by decide +kernel, by decide +kernel, by decide +kernel⟩
theorem cf_J12_201 : CfS RJ12 201 yJ12_hugeLength cJ12_hugeLength 3 (some .int) 2 := ⟨⟨q451, q452, q67, q453⟩, by decide +kernel, by decide +kernel, by decide +kernel⟩
theorem cf_J13_300 : CfS RJ13 300 yJ13_copyOf_2 cJ13_copyOf_2 4 (some (.array (.object "java/lang/Object"))) 3 := ⟨⟨q474, q475, q68, q476⟩, by decide +kernel, by decide +kernel, by decide +kernel⟩
theorem cf_J2_73 : CfS RJ2 73 yJ12_newLength cJ12_newLength 4 (some .int) 3 := ⟨⟨q444, q445, q67, q446⟩, by decide +kernel, by decide +kernel, by decide +kernel⟩
theorem cf_J2_66 : CfS RJ2 66 yJ13_copyOf cJ13_copyOf 2 (some (.array (.object "java/lang/Object"))) 2 := ⟨⟨q454, q455, q68, q456⟩, by decide +kernel, by decide +kernel, by decide +kernel⟩
theorem cf_J2_69 : CfV RJ2 69 RJ2 yJ2_grow_2 cJ2_grow_2 4 (some (.array (.object "java/lang/Object"))) 1 := ⟨⟨q440, q442, qs5, q53, q443⟩, rfl, by decide +kernel, by decide +kernel, by decide +kernel⟩
theorem cf_J2_129 : CfV RJ2 129 RJ2 yJ2_grow cJ2_grow 1 (some (.array (.object "java/lang/Object"))) 0 := ⟨⟨q436, q438, qs4, q53, q439⟩, rfl, by decide +kernel, by decide +kernel, by decide +kernel⟩
theorem cf_J2_131 : CfV RJ2 131 RJ2 yJ2_add_2 cJ2_add_2 4 none 3 := ⟨⟨q432, q434, qs3, q53, q435⟩, rfl, by decide +kernel, by decide +kernel, by decide +kernel⟩
theorem gf_X0_29 : ∀ x ∈ ([(0, 2)] : List (Nat × Nat)), GF RX0 29 x.1 x.2 := List.forall_mem_cons.mpr ⟨⟨_, _, _, "BarnPictures", qcl_0, by decide, Or.inl ⟨q265, Or.inl rfl⟩⟩, fun _ h => nomatch h⟩
theorem cf_X0_41 : CfF RX0 41 RJ2 yL_size yJ2_size cJ2_size 1 (some .int) 0 := ⟨⟨q394, q398, q400, q53, q402, by simp [qFw]⟩, by decide +kernel, by decide +kernel, by decide +kernel⟩
theorem cf_X0_47 : CfF RX0 47 RJ2 yL_remove yJ2_remove cJ2_remove 4 (some (.object "java/lang/Object")) 1 := ⟨⟨q404, q407, q409, q53, q411, by simp [qFw]⟩, by decide +kernel, by decide +kernel, by decide +kernel⟩
theorem gf_X0_22 : ∀ x ∈ ([(0, 0)] : List (Nat × Nat)), GF RX0 22 x.1 x.2 := List.forall_mem_cons.mpr ⟨⟨_, _, _, "BarnPictures", qcl_0, by decide, Or.inl ⟨q263, Or.inl rfl⟩⟩, fun _ h => nomatch h⟩
theorem cf_X0_51 : CfF RX0 51 RJ2 yL_add yJ2_add cJ2_add 2 (some .boolean) 1 := ⟨⟨q424, q427, q429, q53, q431, by simp [qFw]⟩, by decide +kernel, by decide +kernel, by decide +kernel⟩
theorem gf_X7_7 : ∀ x ∈ ([(14, 0)] : List (Nat × Nat)), GF RX7 7 x.1 x.2 := List.forall_mem_cons.mpr ⟨⟨_, _, _, "BarnPictures$Wrong", qcl_14, by decide, Or.inl ⟨q363, Or.inl rfl⟩⟩, fun _ h => nomatch h⟩
theorem cf_X0_59 : CfI RX0 59 yX1_init_2 cX1_init_2 3 1 := ⟨⟨q284, q285, q47, q286, rfl⟩, by decide +kernel, by decide +kernel, by decide +kernel⟩
theorem cf_X0_62 : CfV RX0 62 RX1 yX1_drive cX1_drive 3 (some .int) 1 := ⟨⟨q302, q303, q304, q47, q305⟩, rfl, by decide +kernel, by decide +kernel, by decide +kernel⟩
theorem cf_X0_66 : CfV RX0 66 RX0 yX0_accept cX0_accept 3 (some .int) 2 := ⟨⟨q388, q390, qs1, q46, q391⟩, rfl, by decide +kernel, by decide +kernel, by decide +kernel⟩
theorem cf_X0_70 : CfV RX0 70 RX7 yX7_code cX7_code 1 (some .int) 0 := ⟨⟨q486, q487, q488, q63, q489⟩, rfl, by decide +kernel, by decide +kernel, by decide +kernel⟩
theorem cf_X5_37 : CfS RX5 37 yX5_in cX5_in 3 (some .boolean) 3 := ⟨⟨q1152, q1153, q58, q1154⟩, by decide +kernel, by decide +kernel, by decide +kernel⟩
theorem gf_X5_41 : ∀ x ∈ ([(4, 3)] : List (Nat × Nat)), GF RX5 41 x.1 x.2 := List.forall_mem_cons.mpr ⟨⟨_, _, _, "BarnPicturesModel", qcl_4, by decide, Or.inl ⟨q1099, Or.inl rfl⟩⟩, fun _ h => nomatch h⟩
theorem pf_X5_41 : ∀ x ∈ ([(4, 3)] : List (Nat × Nat)), PF RX5 41 x.1 x.2 .int false := List.forall_mem_cons.mpr ⟨⟨_, _, _, "BarnPicturesModel", qcl_4, by decide, Or.inl ⟨q1099, Or.inl rfl⟩, rfl, by decide +kernel, fun h => nomatch h⟩, fun _ h => nomatch h⟩
theorem gf_X5_16 : ∀ x ∈ ([(4, 2)] : List (Nat × Nat)), GF RX5 16 x.1 x.2 := List.forall_mem_cons.mpr ⟨⟨_, _, _, "BarnPicturesModel", qcl_4, by decide, Or.inl ⟨q1098, Or.inl rfl⟩⟩, fun _ h => nomatch h⟩
theorem cf_X5_50 : CfS RX5 50 yX5_mile cX5_mile 1 (some .int) 1 := ⟨⟨q1164, q1165, q58, q1166⟩, by decide +kernel, by decide +kernel, by decide +kernel⟩
theorem cf_X5_80 : CfS RX5 80 yX5_isBarn cX5_isBarn 1 (some .boolean) 1 := ⟨⟨q1149, q1150, q58, q1151⟩, by decide +kernel, by decide +kernel, by decide +kernel⟩
theorem cf_X5_83 : CfV RX5 83 RX5 yX5_know cX5_know 2 none 0 := ⟨⟨q1156, q1158, qs16, q58, q1159⟩, rfl, by decide +kernel, by decide +kernel, by decide +kernel⟩
theorem cf_X5_86 : CfV RX5 86 RX5 yX5_drives cX5_drives 3 (some .int) 1 := ⟨⟨q1160, q1162, qs17, q58, q1163⟩, rfl, by decide +kernel, by decide +kernel, by decide +kernel⟩
theorem gf_X1_83 : ∀ x ∈ ([(2, 0), (3, 0)] : List (Nat × Nat)), GF RX1 83 x.1 x.2 := List.forall_mem_cons.mpr ⟨⟨_, _, _, "BarnPictures$Thing", qcl_2, by decide, Or.inr ⟨_, qnw_in q118 rfl, rfl⟩⟩, List.forall_mem_cons.mpr ⟨⟨_, _, _, "BarnPictures$Thing", qcl_3, by decide, Or.inr ⟨_, qnw_in q118 rfl, rfl⟩⟩, fun _ h => nomatch h⟩⟩
theorem gf_X2_10 : ∀ x ∈ ([(2, 0), (3, 0)] : List (Nat × Nat)), GF RX2 10 x.1 x.2 := List.forall_mem_cons.mpr ⟨⟨_, _, _, "BarnPictures$Thing", qcl_2, by decide, Or.inl ⟨q115, Or.inl rfl⟩⟩, List.forall_mem_cons.mpr ⟨⟨_, _, _, "BarnPictures$Thing", qcl_3, by decide, Or.inl ⟨q115, Or.inl rfl⟩⟩, fun _ h => nomatch h⟩⟩
theorem cf_X1_88 : CfV RX1 88 RX1 yX1_isIn cX1_isIn 3 (some .boolean) 2 := ⟨⟨q510, q512, qs7, q47, q513⟩, rfl, by decide +kernel, by decide +kernel, by decide +kernel⟩
theorem cf_X1_92 : ∀ ci ∈ [3], ∃ C T N, vwCl[ci]? = some (C, T, N) ∧ CfU RX1 92 C "BarnPictures$Thing" ⟨"BarnPictures$Generator", "isInVan", "()Z"⟩ yX2_isInVan cX2_isInVan 1 (some .boolean) 0 := List.forall_mem_cons.mpr ⟨⟨_, _, _, rfl, ⟨⟨q514, q515, q517, q518, q48, q519, Or.inl rfl⟩, by decide +kernel, by decide +kernel, by decide +kernel⟩⟩, fun _ h => nomatch h⟩
theorem cf_X2_17 : CfSN RX2 17 yX0_check cX0_check 2 none 2 := ⟨⟨⟨_, qnw_in q527 rfl⟩, q311, q46, q312⟩, by decide +kernel, by decide +kernel, by decide +kernel⟩
theorem cf_X2_21 : ∀ ci ∈ [2, 3], ∃ C T N, vwCl[ci]? = some (C, T, N) ∧ CfU RX2 21 C "BarnPictures$Thing" ⟨"BarnPictures$Thing", "isInVan", "()Z"⟩ yX2_isInVan cX2_isInVan 1 (some .boolean) 0 := List.forall_mem_cons.mpr ⟨⟨_, _, _, rfl, ⟨⟨q528, q1371, q1373, q518, q48, q519, Or.inl rfl⟩, by decide +kernel, by decide +kernel, by decide +kernel⟩⟩, List.forall_mem_cons.mpr ⟨⟨_, _, _, rfl, ⟨⟨q528, q1371, q1372, q518, q48, q519, Or.inl rfl⟩, by decide +kernel, by decide +kernel, by decide +kernel⟩⟩, fun _ h => nomatch h⟩⟩
theorem cf_X1_137 : CfV RX1 137 RX1 yX1_things cX1_things 3 (some .int) 0 := ⟨⟨q506, q507, q508, q47, q509⟩, rfl, by decide +kernel, by decide +kernel, by decide +kernel⟩
theorem cf_X1_141 : ∀ ci ∈ [2, 3], ∃ C T N, vwCl[ci]? = some (C, T, N) ∧ CfU RX1 141 C "BarnPictures$Thing" ⟨"BarnPictures$Thing", "moves", "(ZII)Z"⟩ yX2_moves cX2_moves 4 (some .boolean) 3 := List.forall_mem_cons.mpr ⟨⟨_, _, _, rfl, ⟨⟨q520, q522, q524, q521, q48, q525, Or.inl rfl⟩, by decide +kernel, by decide +kernel, by decide +kernel⟩⟩, List.forall_mem_cons.mpr ⟨⟨_, _, _, rfl, ⟨⟨q520, q522, q523, q521, q48, q525, Or.inl rfl⟩, by decide +kernel, by decide +kernel, by decide +kernel⟩⟩, fun _ h => nomatch h⟩⟩
theorem cf_X1_145 : CfV RX1 145 RX1 yX1_isReel cX1_isReel 2 (some .boolean) 1 := ⟨⟨q498, q499, q500, q47, q501⟩, rfl, by decide +kernel, by decide +kernel, by decide +kernel⟩
theorem cf_X1_148 : CfV RX1 148 RX1 yX1_move cX1_move 3 (some .int) 2 := ⟨⟨q502, q504, qs6, q47, q505⟩, rfl, by decide +kernel, by decide +kernel, by decide +kernel⟩
theorem cf_X0_73 : CfV RX0 73 RX1 yX1_moveReel cX1_moveReel 3 (some .int) 2 := ⟨⟨q494, q495, q496, q47, q497⟩, rfl, by decide +kernel, by decide +kernel, by decide +kernel⟩
theorem cf_X5_45 : CfV RX5 45 RX5 yX5_inVan cX5_inVan 3 (some .int) 0 := ⟨⟨q1184, q1186, qs21, q58, q1187⟩, rfl, by decide +kernel, by decide +kernel, by decide +kernel⟩
theorem cf_X5_89 : CfV RX5 89 RX5 yX5_moveFault cX5_moveFault 3 (some .int) 2 := ⟨⟨q1179, q1181, qs20, q58, q1182⟩, rfl, by decide +kernel, by decide +kernel, by decide +kernel⟩
theorem cf_X5_93 : CfV RX5 93 RX5 yX5_moves cX5_moves 3 (some .int) 2 := ⟨⟨q1189, q1191, qs22, q58, q1192⟩, rfl, by decide +kernel, by decide +kernel, by decide +kernel⟩
theorem cf_X5_96 : CfV RX5 96 RX5 yX5_isReel cX5_isReel 2 (some .boolean) 1 := ⟨⟨q1171, q1173, qs18, q58, q1174⟩, rfl, by decide +kernel, by decide +kernel, by decide +kernel⟩
theorem cf_X5_99 : CfV RX5 99 RX5 yX5_movesIf cX5_movesIf 5 (some .int) 3 := ⟨⟨q1175, q1177, qs19, q58, q1178⟩, rfl, by decide +kernel, by decide +kernel, by decide +kernel⟩
theorem cf_X0_77 : CfV RX0 77 RX1 yX1_moveGenerator cX1_moveGenerator 3 (some .int) 2 := ⟨⟨q534, q535, q536, q47, q537⟩, rfl, by decide +kernel, by decide +kernel, by decide +kernel⟩
theorem cf_X5_54 : CfS RX5 54 yX5_isGenerator cX5_isGenerator 1 (some .boolean) 1 := ⟨⟨q1197, q1198, q58, q1199⟩, by decide +kernel, by decide +kernel, by decide +kernel⟩
theorem gf_X1_119 : ∀ x ∈ ([(3, 1)] : List (Nat × Nat)), GF RX1 119 x.1 x.2 := List.forall_mem_cons.mpr ⟨⟨_, _, _, "BarnPictures$Generator", qcl_3, by decide, Or.inr ⟨_, qnw_in q140 rfl, rfl⟩⟩, fun _ h => nomatch h⟩
theorem pf_X1_119 : ∀ x ∈ ([(3, 1)] : List (Nat × Nat)), PF RX1 119 x.1 x.2 .int false := List.forall_mem_cons.mpr ⟨⟨_, _, _, "BarnPictures$Generator", qcl_3, by decide, Or.inr ⟨_, qnw_in q140 rfl, rfl⟩, rfl, by decide +kernel, fun h => nomatch h⟩, fun _ h => nomatch h⟩
theorem cf_X0_80 : CfV RX0 80 RX1 yX1_fuel cX1_fuel 3 (some .int) 2 := ⟨⟨q542, q543, q544, q47, q545⟩, rfl, by decide +kernel, by decide +kernel, by decide +kernel⟩
theorem cf_X5_103 : CfV RX5 103 RX5 yX5_fuelFault cX5_fuelFault 3 (some .int) 2 := ⟨⟨q1204, q1206, qs23, q58, q1207⟩, rfl, by decide +kernel, by decide +kernel, by decide +kernel⟩
theorem cf_X5_106 : CfV RX5 106 RX5 yX5_fuels cX5_fuels 3 (some .int) 2 := ⟨⟨q1209, q1211, qs24, q58, q1212⟩, rfl, by decide +kernel, by decide +kernel, by decide +kernel⟩
theorem cf_X1_155 : ∀ ci ∈ [2], ∃ C T N, vwCl[ci]? = some (C, T, N) ∧ CfU RX1 155 C "BarnPictures$Thing" ⟨"BarnPictures$Reel", "isInVan", "()Z"⟩ yX2_isInVan cX2_isInVan 1 (some .boolean) 0 := List.forall_mem_cons.mpr ⟨⟨_, _, _, rfl, ⟨⟨q557, q558, q559, q518, q48, q519, Or.inl rfl⟩, by decide +kernel, by decide +kernel, by decide +kernel⟩⟩, fun _ h => nomatch h⟩
theorem cf_X1_156 : CfV RX1 156 RX3 yX3_renew cX3_renew 1 none 0 := ⟨⟨q560, q561, q562, q49, q563⟩, rfl, by decide +kernel, by decide +kernel, by decide +kernel⟩
theorem gf_X1_96 : ∀ x ∈ ([(2, 2)] : List (Nat × Nat)), GF RX1 96 x.1 x.2 := List.forall_mem_cons.mpr ⟨⟨_, _, _, "BarnPictures$Reel", qcl_2, by decide, Or.inr ⟨_, qnw_in q105 rfl, rfl⟩⟩, fun _ h => nomatch h⟩
theorem cf_X0_84 : CfV RX0 84 RX1 yX1_renew cX1_renew 2 (some .int) 1 := ⟨⟨q553, q554, q555, q47, q556⟩, rfl, by decide +kernel, by decide +kernel, by decide +kernel⟩
theorem cf_X0_55 : CfS RX0 55 yX0_inRange cX0_inRange 3 (some .boolean) 3 := ⟨⟨q568, q307, q46, q308⟩, by decide +kernel, by decide +kernel, by decide +kernel⟩
theorem gf_X0_87 : ∀ x ∈ ([(1, 8)] : List (Nat × Nat)), GF RX0 87 x.1 x.2 := List.forall_mem_cons.mpr ⟨⟨_, _, _, "BarnPictures$Tour", qcl_1, by decide, Or.inr ⟨_, qnw_in q165 rfl, rfl⟩⟩, fun _ h => nomatch h⟩
theorem pf_X0_87 : ∀ x ∈ ([(1, 8)] : List (Nat × Nat)), PF RX0 87 x.1 x.2 .int false := List.forall_mem_cons.mpr ⟨⟨_, _, _, "BarnPictures$Tour", qcl_1, by decide, Or.inr ⟨_, qnw_in q165 rfl, rfl⟩, rfl, by decide +kernel, fun h => nomatch h⟩, fun _ h => nomatch h⟩
theorem cf_X5_109 : CfV RX5 109 RX5 yX5_puts cX5_puts 4 (some .int) 2 := ⟨⟨q1221, q1223, qs25, q58, q1224⟩, rfl, by decide +kernel, by decide +kernel, by decide +kernel⟩
theorem cf_X1_116 : CfV RX1 116 RX1 yX1_reelsIn cX1_reelsIn 4 (some .int) 1 := ⟨⟨q582, q583, q584, q47, q585⟩, rfl, by decide +kernel, by decide +kernel, by decide +kernel⟩
theorem cf_X1_120 : CfV RX1 120 RX1 yX1_generatorFor cX1_generatorFor 4 (some .int) 2 := ⟨⟨q586, q588, qs8, q47, q589⟩, rfl, by decide +kernel, by decide +kernel, by decide +kernel⟩
theorem cf_X1_123 : CfV RX1 123 RX1 yX1_minutesIn cX1_minutesIn 4 (some .int) 1 := ⟨⟨q590, q591, q592, q47, q593⟩, rfl, by decide +kernel, by decide +kernel, by decide +kernel⟩
theorem pf_X8_9 : ∀ x ∈ ([(15, 0)] : List (Nat × Nat)), PF RX8 9 x.1 x.2 .int true := List.forall_mem_cons.mpr ⟨⟨_, _, _, "BarnPictures$NoShow", qcl_15, by decide, Or.inl ⟨q607, Or.inl rfl⟩, rfl, by decide +kernel, fun _ => ⟨rfl, q607, rfl⟩⟩, fun _ h => nomatch h⟩
theorem cf_X1_112 : CfSN RX1 112 yX0_seatsOf cX0_seatsOf 1 (some .int) 1 := ⟨⟨⟨_, qnw_in q621 rfl⟩, q622, q46, q623⟩, by decide +kernel, by decide +kernel, by decide +kernel⟩
theorem cf_X1_99 : CfV RX1 99 RX3 yX3_isFresh cX3_isFresh 2 (some .boolean) 1 := ⟨⟨q616, q617, q618, q49, q619⟩, rfl, by decide +kernel, by decide +kernel, by decide +kernel⟩
theorem gf_X1_103 : ∀ x ∈ ([(2, 3)] : List (Nat × Nat)), GF RX1 103 x.1 x.2 := List.forall_mem_cons.mpr ⟨⟨_, _, _, "BarnPictures$Reel", qcl_2, by decide, Or.inr ⟨_, qnw_in q108 rfl, rfl⟩⟩, fun _ h => nomatch h⟩
theorem gf_X1_172 : ∀ x ∈ ([(2, 5)] : List (Nat × Nat)), GF RX1 172 x.1 x.2 := List.forall_mem_cons.mpr ⟨⟨_, _, _, "BarnPictures$Reel", qcl_2, by decide, Or.inr ⟨_, qnw_in q113 rfl, rfl⟩⟩, fun _ h => nomatch h⟩
theorem pf_X1_172 : ∀ x ∈ ([(2, 5)] : List (Nat × Nat)), PF RX1 172 x.1 x.2 .int false := List.forall_mem_cons.mpr ⟨⟨_, _, _, "BarnPictures$Reel", qcl_2, by decide, Or.inr ⟨_, qnw_in q113 rfl, rfl⟩, rfl, by decide +kernel, fun h => nomatch h⟩, fun _ h => nomatch h⟩
theorem cf_X1_175 : CfV RX1 175 RX3 yX3_wears cX3_wears 3 (some .int) 1 := ⟨⟨q628, q629, q630, q49, q631⟩, rfl, by decide +kernel, by decide +kernel, by decide +kernel⟩
theorem cf_X1_178 : CfV RX1 178 RX3 yX3_isGone cX3_isGone 1 (some .boolean) 0 := ⟨⟨q632, q633, q634, q49, q635⟩, rfl, by decide +kernel, by decide +kernel, by decide +kernel⟩
theorem cf_X1_159 : CfV RX1 159 RX1 yX1_reason cX1_reason 2 (some .int) 1 := ⟨⟨q578, q579, q580, q47, q581⟩, rfl, by decide +kernel, by decide +kernel, by decide +kernel⟩
theorem cf_X1_165 : CfV RX1 165 RX1 yX1_peopleFor cX1_peopleFor 5 (some .int) 1 := ⟨⟨q612, q613, q614, q47, q615⟩, rfl, by decide +kernel, by decide +kernel, by decide +kernel⟩
theorem nf_X1_162 : qNf RX1 162 11 7 fs_11 := ⟨_, _, _, tyX8, rfl, in_X8, tyX8_ok, q594, q595, q69, fd_11, fn_11⟩
theorem cf_X1_164 : CfI RX1 164 yX8_init cX8_init 2 1 := ⟨⟨q603, q604, q69, q605, rfl⟩, by decide +kernel, by decide +kernel, by decide +kernel⟩
theorem cf_X1_168 : CfV RX1 168 RX1 yX1_play cX1_play 3 none 2 := ⟨⟨q624, q626, qs9, q47, q627⟩, rfl, by decide +kernel, by decide +kernel, by decide +kernel⟩
theorem gf_X8_9 : ∀ x ∈ ([(15, 0)] : List (Nat × Nat)), GF RX8 9 x.1 x.2 := List.forall_mem_cons.mpr ⟨⟨_, _, _, "BarnPictures$NoShow", qcl_15, by decide, Or.inl ⟨q607, Or.inl rfl⟩⟩, fun _ h => nomatch h⟩
theorem cf_X0_91 : CfV RX0 91 RX1 yX1_show cX1_show 6 (some .int) 1 := ⟨⟨q574, q575, q576, q47, q577⟩, rfl, by decide +kernel, by decide +kernel, by decide +kernel⟩
theorem cf_X0_96 : CfU RX0 96 RX7 "BarnPictures$Refusal" ⟨"BarnPictures$Refusal", "code", "()I"⟩ yX7_code cX7_code 1 (some .int) 0 ∧ CfU RX0 96 RX8 "BarnPictures$Refusal" ⟨"BarnPictures$Refusal", "code", "()I"⟩ yX8_code cX8_code 1 (some .int) 0 := ⟨⟨⟨q636, q638, q643, q487, q63, q489, Or.inr (qnw_in q637 rfl)⟩, by decide +kernel, by decide +kernel, by decide +kernel⟩, ⟨⟨q636, q638, q639, q640, q69, q641, Or.inr (qnw_in q637 rfl)⟩, by decide +kernel, by decide +kernel, by decide +kernel⟩⟩
theorem cf_X5_60 : CfV RX5 60 RX5 yX5_reels cX5_reels 8 (some .int) 2 := ⟨⟨q1233, q1235, qs27, q58, q1236⟩, rfl, by decide +kernel, by decide +kernel, by decide +kernel⟩
theorem cf_X5_63 : CfV RX5 63 RX5 yX5_generatorFor cX5_generatorFor 4 (some .int) 2 := ⟨⟨q1237, q1239, qs28, q58, q1240⟩, rfl, by decide +kernel, by decide +kernel, by decide +kernel⟩
theorem cf_X5_66 : CfS RX5 66 yX5_seats cX5_seats 1 (some .int) 1 := ⟨⟨q1250, q1251, q58, q1252⟩, by decide +kernel, by decide +kernel, by decide +kernel⟩
theorem cf_X5_69 : CfV RX5 69 RX5 yX5_peopleAt cX5_peopleAt 4 (some .int) 1 := ⟨⟨q1246, q1248, qs30, q58, q1249⟩, rfl, by decide +kernel, by decide +kernel, by decide +kernel⟩
theorem cf_X5_76 : CfV RX5 76 RX5 yX5_log cX5_log 6 none 4 := ⟨⟨q1257, q1259, qs32, q58, q1260⟩, rfl, by decide +kernel, by decide +kernel, by decide +kernel⟩
theorem cf_X5_72 : CfV RX5 72 RX5 yX5_wear cX5_wear 3 none 2 := ⟨⟨q1253, q1255, qs31, q58, q1256⟩, rfl, by decide +kernel, by decide +kernel, by decide +kernel⟩
theorem cf_X5_112 : CfV RX5 112 RX5 yX5_why cX5_why 2 (some .int) 1 := ⟨⟨q1229, q1231, qs26, q58, q1232⟩, rfl, by decide +kernel, by decide +kernel, by decide +kernel⟩
theorem cf_X5_116 : CfV RX5 116 RX5 yX5_shows cX5_shows 6 (some .int) 1 := ⟨⟨q1242, q1244, qs29, q58, q1245⟩, rfl, by decide +kernel, by decide +kernel, by decide +kernel⟩
theorem cf_X0_99 : CfV RX0 99 RX1 yX1_nextDay cX1_nextDay 1 (some .int) 0 := ⟨⟨q648, q649, q650, q47, q651⟩, rfl, by decide +kernel, by decide +kernel, by decide +kernel⟩
theorem cf_X5_119 : CfV RX5 119 RX5 yX5_begins cX5_begins 2 (some .int) 0 := ⟨⟨q1265, q1267, qs33, q58, q1268⟩, rfl, by decide +kernel, by decide +kernel, by decide +kernel⟩
theorem gf_J3_79 : ∀ x ∈ ([(8, 3)] : List (Nat × Nat)), GF RJ3 79 x.1 x.2 := List.forall_mem_cons.mpr ⟨⟨_, _, _, "java/lang/AbstractStringBuilder", qcl_8, by decide, Or.inl ⟨q252, Or.inl rfl⟩⟩, fun _ h => nomatch h⟩
theorem cf_J4_343 : CfSU RJ4 343 yJ3_length cJ3_length 1 (some .int) 0 := ⟨⟨q660, q1374, q261, q661, q54, q662⟩, by decide +kernel, by decide +kernel⟩
theorem gf_J3_15 : ∀ x ∈ ([(8, 0)] : List (Nat × Nat)), GF RJ3 15 x.1 x.2 := List.forall_mem_cons.mpr ⟨⟨_, _, _, "java/lang/AbstractStringBuilder", qcl_8, by decide, Or.inl ⟨q249, Or.inl rfl⟩⟩, fun _ h => nomatch h⟩
theorem gf_J3_22 : ∀ x ∈ ([(8, 1)] : List (Nat × Nat)), GF RJ3 22 x.1 x.2 := List.forall_mem_cons.mpr ⟨⟨_, _, _, "java/lang/AbstractStringBuilder", qcl_8, by decide, Or.inl ⟨q250, Or.inl rfl⟩⟩, fun _ h => nomatch h⟩
theorem cf_J3_114 : CfS RJ3 114 yJ12_newLength cJ12_newLength 4 (some .int) 3 := ⟨⟨q679, q445, q67, q446⟩, by decide +kernel, by decide +kernel, by decide +kernel⟩
theorem cf_J3_104 : ∀ ci ∈ [8], ∃ C T N, vwCl[ci]? = some (C, T, N) ∧ CfU RJ3 104 C "java/lang/AbstractStringBuilder" ⟨"java/lang/AbstractStringBuilder", "newCapacity", "(I)I"⟩ yJ3_newCapacity cJ3_newCapacity 6 (some .int) 1 := List.forall_mem_cons.mpr ⟨⟨_, _, _, rfl, ⟨⟨q675, q1377, qt1, q677, q54, q678, Or.inl rfl⟩, by decide +kernel, by decide +kernel, by decide +kernel⟩⟩, fun _ h => nomatch h⟩
theorem cf_J3_108 : CfS RJ3 108 yJ13_copyOf_3 cJ13_copyOf_3 3 (some (.array .byte)) 2 := ⟨⟨q681, q682, q68, q683⟩, by decide +kernel, by decide +kernel, by decide +kernel⟩
theorem cf_J5_1065 : CfS RJ5 1065 yJ11_checkFromIndexSize cJ11_checkFromIndexSize 4 (some .int) 4 := ⟨⟨q720, q721, q66, q722⟩, by decide +kernel, by decide +kernel, by decide +kernel⟩
theorem cf_J6_48 : CfS RJ6 48 yJ6_length cJ6_length 1 (some .int) 1 := ⟨⟨q712, q713, q57, q714⟩, by decide +kernel, by decide +kernel, by decide +kernel⟩
theorem cf_J6_419 : CfS RJ6 419 yJ5_checkBoundsOffCount cJ5_checkBoundsOffCount 3 (some .int) 3 := ⟨⟨q715, q716, q56, q717⟩, by decide +kernel, by decide +kernel, by decide +kernel⟩
theorem cf_J6_173 : CfS RJ6 173 yJ6_checkBoundsOffCount cJ6_checkBoundsOffCount 3 none 3 := ⟨⟨q709, q710, q57, q711⟩, by decide +kernel, by decide +kernel, by decide +kernel⟩
theorem cf_J6_111 : CfS RJ6 111 yJ6_putChar cJ6_putChar 3 none 3 := ⟨⟨q723, q724, q57, q725⟩, by decide +kernel, by decide +kernel, by decide +kernel⟩
theorem cf_J14_240 : CfS RJ14 240 yJ6_inflate cJ6_inflate 6 none 5 := ⟨⟨q706, q707, q57, q708⟩, by decide +kernel, by decide +kernel, by decide +kernel⟩
theorem cf_J3_83 : ∀ ci ∈ [8], ∃ C T N, vwCl[ci]? = some (C, T, N) ∧ CfU RJ3 83 C "java/lang/AbstractStringBuilder" ⟨"java/lang/AbstractStringBuilder", "isLatin1", "()Z"⟩ yJ3_isLatin1 cJ3_isLatin1 1 (some .boolean) 0 := List.forall_mem_cons.mpr ⟨⟨_, _, _, rfl, ⟨⟨q691, q693, q694, q692, q54, q695, Or.inl rfl⟩, by decide +kernel, by decide +kernel, by decide +kernel⟩⟩, fun _ h => nomatch h⟩
theorem cf_J3_125 : CfS RJ3 125 yJ14_inflate cJ14_inflate 5 none 5 := ⟨⟨q703, q704, q70, q705⟩, by decide +kernel, by decide +kernel, by decide +kernel⟩
theorem cf_J5_1059 : CfS RJ5 1059 yJ11_checkIndex cJ11_checkIndex 3 (some .int) 3 := ⟨⟨q741, q416, q66, q417⟩, by decide +kernel, by decide +kernel, by decide +kernel⟩
theorem cf_J6_414 : CfS RJ6 414 yJ5_checkIndex cJ5_checkIndex 2 none 2 := ⟨⟨q738, q739, q56, q740⟩, by decide +kernel, by decide +kernel, by decide +kernel⟩
theorem cf_J6_67 : CfS RJ6 67 yJ6_checkIndex cJ6_checkIndex 2 none 2 := ⟨⟨q735, q736, q57, q737⟩, by decide +kernel, by decide +kernel, by decide +kernel⟩
theorem cf_J3_100 : ∀ ci ∈ [8], ∃ C T N, vwCl[ci]? = some (C, T, N) ∧ CfU RJ3 100 C "java/lang/AbstractStringBuilder" ⟨"java/lang/AbstractStringBuilder", "ensureCapacityInternal", "(I)V"⟩ yJ3_ensureCapacityInternal cJ3_ensureCapacityInternal 3 none 1 := List.forall_mem_cons.mpr ⟨⟨_, _, _, rfl, ⟨⟨q671, q1376, qt0, q673, q54, q674, Or.inl rfl⟩, by decide +kernel, by decide +kernel, by decide +kernel⟩⟩, fun _ h => nomatch h⟩
theorem cf_J3_191 : CfS RJ3 191 yJ14_canEncode cJ14_canEncode 1 (some .boolean) 1 := ⟨⟨q696, q697, q70, q698⟩, by decide +kernel, by decide +kernel, by decide +kernel⟩
theorem pf_J3_79 : ∀ x ∈ ([(8, 3)] : List (Nat × Nat)), PF RJ3 79 x.1 x.2 .int false := List.forall_mem_cons.mpr ⟨⟨_, _, _, "java/lang/AbstractStringBuilder", qcl_8, by decide, Or.inl ⟨q252, Or.inl rfl⟩, rfl, by decide +kernel, fun h => nomatch h⟩, fun _ h => nomatch h⟩
theorem cf_J3_195 : ∀ ci ∈ [8], ∃ C T N, vwCl[ci]? = some (C, T, N) ∧ CfU RJ3 195 C "java/lang/AbstractStringBuilder" ⟨"java/lang/AbstractStringBuilder", "inflate", "()V"⟩ yJ3_inflate cJ3_inflate 2 none 0 := List.forall_mem_cons.mpr ⟨⟨_, _, _, rfl, ⟨⟨q699, q1378, qt2, q701, q54, q702, Or.inl rfl⟩, by decide +kernel, by decide +kernel, by decide +kernel⟩⟩, fun _ h => nomatch h⟩
theorem cf_J3_197 : CfS RJ3 197 yJ6_putCharSB cJ6_putCharSB 3 none 3 := ⟨⟨q732, q733, q57, q734⟩, by decide +kernel, by decide +kernel, by decide +kernel⟩
theorem cf_J4_50 : CfSU RJ4 50 yJ3_append cJ3_append 2 (some (.object "java/lang/AbstractStringBuilder")) 1 := ⟨⟨q668, q1375, q261, q669, q54, q670⟩, by decide +kernel, by decide +kernel⟩
theorem gf_X0_36 : ∀ x ∈ ([(0, 3)] : List (Nat × Nat)), GF RX0 36 x.1 x.2 := List.forall_mem_cons.mpr ⟨⟨_, _, _, "BarnPictures", qcl_0, by decide, Or.inl ⟨q266, Or.inl rfl⟩⟩, fun _ h => nomatch h⟩
theorem cf_X0_102 : CfV RX0 102 RJ4 yJ4_length cJ4_length 1 (some .int) 0 := ⟨⟨q656, q657, q658, q55, q659⟩, rfl, by decide +kernel, by decide +kernel, by decide +kernel⟩
theorem cf_X0_106 : CfV RX0 106 RJ4 yJ4_append cJ4_append 2 (some (.object "java/lang/StringBuilder")) 1 := ⟨⟨q664, q665, q666, q55, q667⟩, rfl, by decide +kernel, by decide +kernel, by decide +kernel⟩
theorem gf_X5_122 : ∀ x ∈ ([(4, 7)] : List (Nat × Nat)), GF RX5 122 x.1 x.2 := List.forall_mem_cons.mpr ⟨⟨_, _, _, "BarnPicturesModel", qcl_4, by decide, Or.inl ⟨q1103, Or.inl rfl⟩⟩, fun _ h => nomatch h⟩
theorem gf_X5_22 : ∀ x ∈ ([(4, 6)] : List (Nat × Nat)), GF RX5 22 x.1 x.2 := List.forall_mem_cons.mpr ⟨⟨_, _, _, "BarnPicturesModel", qcl_4, by decide, Or.inl ⟨q1102, Or.inl rfl⟩⟩, fun _ h => nomatch h⟩
theorem pf_X5_122 : ∀ x ∈ ([(4, 7)] : List (Nat × Nat)), PF RX5 122 x.1 x.2 .int false := List.forall_mem_cons.mpr ⟨⟨_, _, _, "BarnPicturesModel", qcl_4, by decide, Or.inl ⟨q1103, Or.inl rfl⟩, rfl, by decide +kernel, fun h => nomatch h⟩, fun _ h => nomatch h⟩
theorem cf_J13_13 : CfS RJ13 13 yJ13_rangeCheck cJ13_rangeCheck 3 none 3 := ⟨⟨q759, q760, q68, q761⟩, by decide +kernel, by decide +kernel, by decide +kernel⟩
theorem cf_J14_236 : CfS RJ14 236 yJ13_fill cJ13_fill 5 none 4 := ⟨⟨q756, q757, q68, q758⟩, by decide +kernel, by decide +kernel, by decide +kernel⟩
theorem cf_J6_380 : CfS RJ6 380 yJ13_fill cJ13_fill 5 none 4 := ⟨⟨q765, q757, q68, q758⟩, by decide +kernel, by decide +kernel, by decide +kernel⟩
theorem pf_J3_73 : ∀ x ∈ ([(8, 2)] : List (Nat × Nat)), PF RJ3 73 x.1 x.2 .boolean false := List.forall_mem_cons.mpr ⟨⟨_, _, _, "java/lang/AbstractStringBuilder", qcl_8, by decide, Or.inl ⟨q251, Or.inl rfl⟩, rfl, by decide +kernel, fun h => nomatch h⟩, fun _ h => nomatch h⟩
theorem cf_J3_137 : CfS RJ3 137 yJ6_fillNull cJ6_fillNull 3 none 3 := ⟨⟨q762, q763, q57, q764⟩, by decide +kernel, by decide +kernel, by decide +kernel⟩
theorem cf_J3_133 : CfS RJ3 133 yJ14_fillNull cJ14_fillNull 3 none 3 := ⟨⟨q753, q754, q70, q755⟩, by decide +kernel, by decide +kernel, by decide +kernel⟩
theorem cf_J4_333 : CfSU RJ4 333 yJ3_setLength cJ3_setLength 2 none 1 := ⟨⟨q750, q1379, q261, q751, q54, q752⟩, by decide +kernel, by decide +kernel⟩
theorem cf_X0_110 : CfV RX0 110 RJ4 yJ4_setLength cJ4_setLength 2 none 1 := ⟨⟨q746, q747, q748, q55, q749⟩, rfl, by decide +kernel, by decide +kernel, by decide +kernel⟩
theorem nf_X9_9 : qNf RX9 9 7 3 fs_7 := ⟨_, _, _, tyJ2, rfl, in_J2, tyJ2_ok, q778, q206, q53, fd_7, fn_7⟩
theorem cf_X9_11 : CfI RX9 11 yJ2_init cJ2_init 1 0 := ⟨⟨q779, q208, q53, q209, rfl⟩, by decide +kernel, by decide +kernel, by decide +kernel⟩
theorem pf_X9_12 : ∀ x ∈ ([(5, 1)] : List (Nat × Nat)), PF RX9 12 x.1 x.2 (.object "java/util/List") true := List.forall_mem_cons.mpr ⟨⟨_, _, _, "BarnPictures$Reader", qcl_5, by decide, Or.inl ⟨q781, Or.inl rfl⟩, rfl, by decide +kernel, fun _ => ⟨rfl, q781, rfl⟩⟩, fun _ h => nomatch h⟩
theorem pf_X9_18 : ∀ x ∈ ([(5, 0)] : List (Nat × Nat)), PF RX9 18 x.1 x.2 (.object "java/lang/CharSequence") true := List.forall_mem_cons.mpr ⟨⟨_, _, _, "BarnPictures$Reader", qcl_5, by decide, Or.inl ⟨q780, Or.inl rfl⟩, rfl, by decide +kernel, fun _ => ⟨rfl, q780, rfl⟩⟩, fun _ h => nomatch h⟩
theorem cf_J3_144 : CfS RJ3 144 yJ5_checkIndex cJ5_checkIndex 2 none 2 := ⟨⟨q820, q739, q56, q740⟩, by decide +kernel, by decide +kernel, by decide +kernel⟩
theorem cf_J3_148 : CfS RJ3 148 yJ6_getChar cJ6_getChar 2 (some .char) 2 := ⟨⟨q821, q822, q57, q823⟩, by decide +kernel, by decide +kernel, by decide +kernel⟩
theorem cf_J4_329 : CfSU RJ4 329 yJ3_charAt cJ3_charAt 5 (some .char) 1 := ⟨⟨q816, q1380, q261, q817, q54, q818⟩, by decide +kernel, by decide +kernel⟩
theorem cf_J5_335 : CfV RJ5 335 nStr yJ5_coder cJ5_coder 1 (some .byte) 0 := ⟨⟨q842, q843, q844, q56, q845⟩, rfl, by decide +kernel, by decide +kernel, by decide +kernel⟩
theorem cf_J14_88 : CfS RJ14 88 yJ14_canEncode_2 cJ14_canEncode_2 1 (some .boolean) 1 := ⟨⟨q849, q850, q70, q851⟩, by decide +kernel, by decide +kernel, by decide +kernel⟩
theorem cf_J14_95 : CfS RJ14 95 yJ14_indexOfChar cJ14_indexOfChar 6 (some .int) 4 := ⟨⟨q854, q855, q70, q856⟩, by decide +kernel, by decide +kernel, by decide +kernel⟩
theorem cf_J5_492 : CfV RJ5 492 nStr yJ5_isLatin1 cJ5_isLatin1 1 (some .boolean) 0 := ⟨⟨q833, q834, q835, q56, q836⟩, rfl, by decide +kernel, by decide +kernel, by decide +kernel⟩
theorem cf_J5_505 : CfV RJ5 505 nStr yJ5_length cJ5_length 1 (some .int) 0 := ⟨⟨q838, q839, q840, q56, q841⟩, rfl, by decide +kernel, by decide +kernel, by decide +kernel⟩
theorem cf_J5_637 : CfS RJ5 637 yJ14_indexOf cJ14_indexOf 4 (some .int) 4 := ⟨⟨q846, q847, q70, q848⟩, by decide +kernel, by decide +kernel, by decide +kernel⟩
theorem cf_J5_633 : CfV RJ5 633 nStr yJ5_indexOf_2 cJ5_indexOf_2 3 (some .int) 2 := ⟨⟨q829, q830, q831, q56, q832⟩, rfl, by decide +kernel, by decide +kernel, by decide +kernel⟩
theorem pf_X10_7 : ∀ x ∈ ([(16, 0)] : List (Nat × Nat)), PF RX10 7 x.1 x.2 .int true := List.forall_mem_cons.mpr ⟨⟨_, _, _, "BarnPictures$TextFault", qcl_16, by decide, Or.inl ⟨q906, Or.inl rfl⟩, rfl, by decide +kernel, fun _ => ⟨rfl, q906, rfl⟩⟩, fun _ h => nomatch h⟩
theorem gf_X9_22 : ∀ x ∈ ([(5, 2)] : List (Nat × Nat)), GF RX9 22 x.1 x.2 := List.forall_mem_cons.mpr ⟨⟨_, _, _, "BarnPictures$Reader", qcl_5, by decide, Or.inl ⟨q783, Or.inl rfl⟩⟩, fun _ h => nomatch h⟩
theorem gf_X9_18 : ∀ x ∈ ([(5, 0)] : List (Nat × Nat)), GF RX9 18 x.1 x.2 := List.forall_mem_cons.mpr ⟨⟨_, _, _, "BarnPictures$Reader", qcl_5, by decide, Or.inl ⟨q780, Or.inl rfl⟩⟩, fun _ h => nomatch h⟩
theorem cf_X9_26 : CfF RX9 26 RJ4 yC_length yJ4_length cJ4_length 1 (some .int) 0 := ⟨⟨q800, q804, q657, q55, q659, by simp [qFw]⟩, by decide +kernel, by decide +kernel, by decide +kernel⟩
theorem cf_X9_32 : CfF RX9 32 RJ4 yC_charAt yJ4_charAt cJ4_charAt 2 (some .char) 1 := ⟨⟨q808, q811, q813, q55, q815, by simp [qFw]⟩, by decide +kernel, by decide +kernel, by decide +kernel⟩
theorem cf_X9_36 : CfSN RX9 36 yX0_inRange cX0_inRange 3 (some .boolean) 3 := ⟨⟨⟨_, qnw_in q920 rfl⟩, q307, q46, q308⟩, by decide +kernel, by decide +kernel, by decide +kernel⟩
theorem cf_X9_40 : CfV RX9 40 RX9 yX9_isNext cX9_isNext 3 (some .boolean) 2 := ⟨⟨q916, q918, qs12, q71, q919⟩, rfl, by decide +kernel, by decide +kernel, by decide +kernel⟩
theorem pf_X9_22 : ∀ x ∈ ([(5, 2)] : List (Nat × Nat)), PF RX9 22 x.1 x.2 .int false := List.forall_mem_cons.mpr ⟨⟨_, _, _, "BarnPictures$Reader", qcl_5, by decide, Or.inl ⟨q783, Or.inl rfl⟩, rfl, by decide +kernel, fun h => nomatch h⟩, fun _ h => nomatch h⟩
theorem nf_X9_44 : qNf RX9 44 12 7 fs_12 := ⟨_, _, _, tyX10, rfl, in_X10, tyX10_ok, q893, q894, q73, fd_12, fn_12⟩
theorem cf_X9_46 : CfI RX9 46 yX10_init cX10_init 2 1 := ⟨⟨q902, q903, q73, q904, rfl⟩, by decide +kernel, by decide +kernel, by decide +kernel⟩
theorem pf_X11_7 : ∀ x ∈ ([(6, 0)] : List (Nat × Nat)), PF RX11 7 x.1 x.2 .char true := List.forall_mem_cons.mpr ⟨⟨_, _, _, "BarnPictures$Command", qcl_6, by decide, Or.inl ⟨q927, Or.inl rfl⟩, rfl, by decide +kernel, fun _ => ⟨rfl, q927, rfl⟩⟩, fun _ h => nomatch h⟩
theorem pf_X11_13 : ∀ x ∈ ([(6, 1)] : List (Nat × Nat)), PF RX11 13 x.1 x.2 .int true := List.forall_mem_cons.mpr ⟨⟨_, _, _, "BarnPictures$Command", qcl_6, by decide, Or.inl ⟨q928, Or.inl rfl⟩, rfl, by decide +kernel, fun _ => ⟨rfl, q928, rfl⟩⟩, fun _ h => nomatch h⟩
theorem pf_X11_17 : ∀ x ∈ ([(6, 2)] : List (Nat × Nat)), PF RX11 17 x.1 x.2 .int true := List.forall_mem_cons.mpr ⟨⟨_, _, _, "BarnPictures$Command", qcl_6, by decide, Or.inl ⟨q929, Or.inl rfl⟩, rfl, by decide +kernel, fun _ => ⟨rfl, q929, rfl⟩⟩, fun _ h => nomatch h⟩
theorem cf_X9_49 : CfV RX9 49 RX9 yX9_digit cX9_digit 2 (some .int) 1 := ⟨⟨q912, q914, qs11, q71, q915⟩, rfl, by decide +kernel, by decide +kernel, by decide +kernel⟩
theorem cf_X9_55 : CfV RX9 55 nStr yJ5_indexOf cJ5_indexOf 2 (some .int) 1 := ⟨⟨q825, q826, q827, q56, q828⟩, rfl, by decide +kernel, by decide +kernel, by decide +kernel⟩
theorem cf_X9_65 : CfV RX9 65 RX9 yX9_take cX9_take 2 none 1 := ⟨⟨q937, q939, qs13, q71, q940⟩, rfl, by decide +kernel, by decide +kernel, by decide +kernel⟩
theorem nf_X9_60 : qNf RX9 60 6 3 fs_6 := ⟨_, _, _, tyX11, rfl, in_X11, tyX11_ok, q921, q922, q74, fd_6, fn_6⟩
theorem cf_X9_69 : CfV RX9 69 RX9 yX9_minutes cX9_minutes 2 (some .int) 0 := ⟨⟨q941, q943, qs14, q71, q944⟩, rfl, by decide +kernel, by decide +kernel, by decide +kernel⟩
theorem cf_X9_62 : CfI RX9 62 yX11_init cX11_init 4 3 := ⟨⟨q923, q924, q74, q925, rfl⟩, by decide +kernel, by decide +kernel, by decide +kernel⟩
theorem gf_X9_12 : ∀ x ∈ ([(5, 1)] : List (Nat × Nat)), GF RX9 12 x.1 x.2 := List.forall_mem_cons.mpr ⟨⟨_, _, _, "BarnPictures$Reader", qcl_5, by decide, Or.inl ⟨q781, Or.inl rfl⟩⟩, fun _ h => nomatch h⟩
theorem cf_X9_72 : CfV RX9 72 RX9 yX9_command cX9_command 3 (some (.object "BarnPictures$Command")) 0 := ⟨⟨q795, q797, qs10, q71, q798⟩, rfl, by decide +kernel, by decide +kernel, by decide +kernel⟩
theorem cf_X9_76 : CfF RX9 76 RJ2 yL_add yJ2_add cJ2_add 2 (some .boolean) 1 := ⟨⟨q946, q427, q429, q53, q431, by simp [qFw]⟩, by decide +kernel, by decide +kernel, by decide +kernel⟩
theorem cf_J2_123 : CfV RJ2 123 RJ2 yJ2_elementData cJ2_elementData 2 (some (.object "java/lang/Object")) 1 := ⟨⟨q956, q957, q958, q53, q959⟩, rfl, by decide +kernel, by decide +kernel, by decide +kernel⟩
theorem gf_X11_7 : ∀ x ∈ ([(6, 0)] : List (Nat × Nat)), GF RX11 7 x.1 x.2 := List.forall_mem_cons.mpr ⟨⟨_, _, _, "BarnPictures$Command", qcl_6, by decide, Or.inl ⟨q927, Or.inl rfl⟩⟩, fun _ h => nomatch h⟩
theorem gf_X11_13 : ∀ x ∈ ([(6, 1)] : List (Nat × Nat)), GF RX11 13 x.1 x.2 := List.forall_mem_cons.mpr ⟨⟨_, _, _, "BarnPictures$Command", qcl_6, by decide, Or.inl ⟨q928, Or.inl rfl⟩⟩, fun _ h => nomatch h⟩
theorem gf_X11_17 : ∀ x ∈ ([(6, 2)] : List (Nat × Nat)), GF RX11 17 x.1 x.2 := List.forall_mem_cons.mpr ⟨⟨_, _, _, "BarnPictures$Command", qcl_6, by decide, Or.inl ⟨q929, Or.inl rfl⟩⟩, fun _ h => nomatch h⟩
theorem cf_X11_43 : CfV RX11 43 RX1 yX1_fuel cX1_fuel 3 (some .int) 2 := ⟨⟨q975, q543, q544, q47, q545⟩, rfl, by decide +kernel, by decide +kernel, by decide +kernel⟩
theorem gf_X11_30 : ∀ x ∈ ([(1, 1)] : List (Nat × Nat)), GF RX11 30 x.1 x.2 := List.forall_mem_cons.mpr ⟨⟨_, _, _, "BarnPictures$Tour", qcl_1, by decide, Or.inr ⟨_, qnw_in q150 rfl, rfl⟩⟩, fun _ h => nomatch h⟩
theorem cf_X11_34 : ∀ ci ∈ [3], ∃ C T N, vwCl[ci]? = some (C, T, N) ∧ CfU RX11 34 C "BarnPictures$Thing" ⟨"BarnPictures$Generator", "isInVan", "()Z"⟩ yX2_isInVan cX2_isInVan 1 (some .boolean) 0 := List.forall_mem_cons.mpr ⟨⟨_, _, _, rfl, ⟨⟨q973, q515, q517, q518, q48, q519, Or.inl rfl⟩, by decide +kernel, by decide +kernel, by decide +kernel⟩⟩, fun _ h => nomatch h⟩
theorem gf_X11_47 : ∀ x ∈ ([(1, 6)] : List (Nat × Nat)), GF RX11 47 x.1 x.2 := List.forall_mem_cons.mpr ⟨⟨_, _, _, "BarnPictures$Tour", qcl_1, by decide, Or.inr ⟨_, qnw_in q159 rfl, rfl⟩⟩, fun _ h => nomatch h⟩
theorem cf_X11_50 : CfV RX11 50 RX1 yX1_show cX1_show 6 (some .int) 1 := ⟨⟨q976, q575, q576, q47, q577⟩, rfl, by decide +kernel, by decide +kernel, by decide +kernel⟩
theorem cf_X11_20 : CfV RX11 20 RX1 yX1_drive cX1_drive 3 (some .int) 1 := ⟨⟨q971, q303, q304, q47, q305⟩, rfl, by decide +kernel, by decide +kernel, by decide +kernel⟩
theorem cf_X11_53 : CfV RX11 53 RX1 yX1_nextDay cX1_nextDay 1 (some .int) 0 := ⟨⟨q977, q649, q650, q47, q651⟩, rfl, by decide +kernel, by decide +kernel, by decide +kernel⟩
theorem cf_X11_40 : CfV RX11 40 RX1 yX1_moveGenerator cX1_moveGenerator 3 (some .int) 2 := ⟨⟨q974, q535, q536, q47, q537⟩, rfl, by decide +kernel, by decide +kernel, by decide +kernel⟩
theorem cf_X11_26 : CfV RX11 26 RX1 yX1_moveReel cX1_moveReel 3 (some .int) 2 := ⟨⟨q972, q495, q496, q47, q497⟩, rfl, by decide +kernel, by decide +kernel, by decide +kernel⟩
theorem pf_X12_7 : ∀ x ∈ ([(17, 0)] : List (Nat × Nat)), PF RX12 7 x.1 x.2 .int true := List.forall_mem_cons.mpr ⟨⟨_, _, _, "BarnPictures$Stop", qcl_17, by decide, Or.inl ⟨q991, Or.inl rfl⟩, rfl, by decide +kernel, fun _ => ⟨rfl, q991, rfl⟩⟩, fun _ h => nomatch h⟩
theorem pf_X12_13 : ∀ x ∈ ([(17, 1)] : List (Nat × Nat)), PF RX12 13 x.1 x.2 (.object "BarnPictures$Refusal") true := List.forall_mem_cons.mpr ⟨⟨_, _, _, "BarnPictures$Stop", qcl_17, by decide, Or.inl ⟨q992, Or.inl rfl⟩, rfl, by decide +kernel, fun _ => ⟨rfl, q992, rfl⟩⟩, fun _ h => nomatch h⟩
theorem cf_X11_57 : CfV RX11 57 RX11 yX11_act_2 cX11_act_2 2 none 1 := ⟨⟨q967, q969, qs15, q74, q970⟩, rfl, by decide +kernel, by decide +kernel, by decide +kernel⟩
theorem nf_X11_65 : qNf RX11 65 13 8 fs_13 := ⟨_, _, _, tyX12, rfl, in_X12, tyX12_ok, q978, q979, q75, fd_13, fn_13⟩
theorem cf_X11_67 : CfI RX11 67 yX12_init cX12_init 3 2 := ⟨⟨q987, q988, q75, q989, rfl⟩, by decide +kernel, by decide +kernel, by decide +kernel⟩
theorem nf_X0_113 : qNf RX0 113 5 3 fs_5 := ⟨_, _, _, tyX9, rfl, in_X9, tyX9_ok, q772, q773, q71, fd_5, fn_5⟩
theorem cf_X0_115 : CfI RX0 115 yX9_init cX9_init 2 1 := ⟨⟨q774, q775, q71, q776, rfl⟩, by decide +kernel, by decide +kernel, by decide +kernel⟩
theorem cf_X0_118 : CfV RX0 118 RX9 yX9_read cX9_read 1 none 0 := ⟨⟨q791, q792, q793, q71, q794⟩, rfl, by decide +kernel, by decide +kernel, by decide +kernel⟩
theorem pf_X0_141 : ∀ x ∈ ([(0, 4)] : List (Nat × Nat)), PF RX0 141 x.1 x.2 (.object "BarnPictures$Stop") false := List.forall_mem_cons.mpr ⟨⟨_, _, _, "BarnPictures", qcl_0, by decide, Or.inl ⟨q267, Or.inl rfl⟩, rfl, by decide +kernel, fun h => nomatch h⟩, fun _ h => nomatch h⟩
theorem gf_X0_136 : ∀ x ∈ ([(16, 0)] : List (Nat × Nat)), GF RX0 136 x.1 x.2 := List.forall_mem_cons.mpr ⟨⟨_, _, _, "BarnPictures$TextFault", qcl_16, by decide, Or.inr ⟨_, qnw_in q907 rfl, rfl⟩⟩, fun _ h => nomatch h⟩
theorem gf_X0_121 : ∀ x ∈ ([(5, 1)] : List (Nat × Nat)), GF RX0 121 x.1 x.2 := List.forall_mem_cons.mpr ⟨⟨_, _, _, "BarnPictures$Reader", qcl_5, by decide, Or.inr ⟨_, qnw_in q782 rfl, rfl⟩⟩, fun _ h => nomatch h⟩
theorem cf_X0_124 : CfF RX0 124 RJ2 yL_get yJ2_get cJ2_get 2 (some (.object "java/lang/Object")) 1 := ⟨⟨q948, q951, q953, q53, q955, by simp [qFw]⟩, by decide +kernel, by decide +kernel, by decide +kernel⟩
theorem cf_X0_129 : CfVW RX0 129 RX11 yX11_act cX11_act 4 none [(0, 5, 8, 61), (0, 5, 8, 63)] 2 := ⟨⟨q961, q962, q963, q74, q964⟩, rfl, by decide +kernel, by decide +kernel, by decide +kernel⟩
theorem gf_X5_125 : ∀ x ∈ ([(4, 10)] : List (Nat × Nat)), GF RX5 125 x.1 x.2 := List.forall_mem_cons.mpr ⟨⟨_, _, _, "BarnPicturesModel", qcl_4, by decide, Or.inl ⟨q1106, Or.inl rfl⟩⟩, fun _ h => nomatch h⟩
theorem gf_X5_128 : ∀ x ∈ ([(4, 11)] : List (Nat × Nat)), GF RX5 128 x.1 x.2 := List.forall_mem_cons.mpr ⟨⟨_, _, _, "BarnPicturesModel", qcl_4, by decide, Or.inl ⟨q1107, Or.inl rfl⟩⟩, fun _ h => nomatch h⟩
theorem pf_X5_128 : ∀ x ∈ ([(4, 11)] : List (Nat × Nat)), PF RX5 128 x.1 x.2 .boolean false := List.forall_mem_cons.mpr ⟨⟨_, _, _, "BarnPicturesModel", qcl_4, by decide, Or.inl ⟨q1107, Or.inl rfl⟩, rfl, by decide +kernel, fun h => nomatch h⟩, fun _ h => nomatch h⟩
theorem pf_X5_125 : ∀ x ∈ ([(4, 10)] : List (Nat × Nat)), PF RX5 125 x.1 x.2 .int false := List.forall_mem_cons.mpr ⟨⟨_, _, _, "BarnPicturesModel", qcl_4, by decide, Or.inl ⟨q1106, Or.inl rfl⟩, rfl, by decide +kernel, fun h => nomatch h⟩, fun _ h => nomatch h⟩
theorem cf_X5_132 : CfV RX5 132 RX5 yX5_sign cX5_sign 4 (some .int) 2 := ⟨⟨q1289, q1291, qs36, q58, q1292⟩, rfl, by decide +kernel, by decide +kernel, by decide +kernel⟩
theorem pf_X5_135 : ∀ x ∈ ([(4, 12)] : List (Nat × Nat)), PF RX5 135 x.1 x.2 .int false := List.forall_mem_cons.mpr ⟨⟨_, _, _, "BarnPicturesModel", qcl_4, by decide, Or.inl ⟨q1108, Or.inl rfl⟩, rfl, by decide +kernel, fun h => nomatch h⟩, fun _ h => nomatch h⟩
theorem pf_X5_138 : ∀ x ∈ ([(4, 13)] : List (Nat × Nat)), PF RX5 138 x.1 x.2 .int false := List.forall_mem_cons.mpr ⟨⟨_, _, _, "BarnPicturesModel", qcl_4, by decide, Or.inl ⟨q1109, Or.inl rfl⟩, rfl, by decide +kernel, fun h => nomatch h⟩, fun _ h => nomatch h⟩
theorem cf_X5_141 : CfV RX5 141 RX5 yX5_minutes cX5_minutes 2 (some .int) 0 := ⟨⟨q1293, q1295, qs37, q58, q1296⟩, rfl, by decide +kernel, by decide +kernel, by decide +kernel⟩
theorem pf_X5_144 : ∀ x ∈ ([(4, 14)] : List (Nat × Nat)), PF RX5 144 x.1 x.2 .int false := List.forall_mem_cons.mpr ⟨⟨_, _, _, "BarnPicturesModel", qcl_4, by decide, Or.inl ⟨q1110, Or.inl rfl⟩, rfl, by decide +kernel, fun h => nomatch h⟩, fun _ h => nomatch h⟩
theorem gf_X5_135 : ∀ x ∈ ([(4, 12)] : List (Nat × Nat)), GF RX5 135 x.1 x.2 := List.forall_mem_cons.mpr ⟨⟨_, _, _, "BarnPicturesModel", qcl_4, by decide, Or.inl ⟨q1108, Or.inl rfl⟩⟩, fun _ h => nomatch h⟩
theorem gf_X5_138 : ∀ x ∈ ([(4, 13)] : List (Nat × Nat)), GF RX5 138 x.1 x.2 := List.forall_mem_cons.mpr ⟨⟨_, _, _, "BarnPicturesModel", qcl_4, by decide, Or.inl ⟨q1109, Or.inl rfl⟩⟩, fun _ h => nomatch h⟩
theorem gf_X5_144 : ∀ x ∈ ([(4, 14)] : List (Nat × Nat)), GF RX5 144 x.1 x.2 := List.forall_mem_cons.mpr ⟨⟨_, _, _, "BarnPicturesModel", qcl_4, by decide, Or.inl ⟨q1110, Or.inl rfl⟩⟩, fun _ h => nomatch h⟩
theorem cf_X5_147 : CfV RX5 147 RX5 yX5_wrong cX5_wrong 1 (some .int) 0 := ⟨⟨q1301, q1303, qs39, q58, q1304⟩, rfl, by decide +kernel, by decide +kernel, by decide +kernel⟩
theorem pf_X5_150 : ∀ x ∈ ([(4, 15)] : List (Nat × Nat)), PF RX5 150 x.1 x.2 .int false := List.forall_mem_cons.mpr ⟨⟨_, _, _, "BarnPicturesModel", qcl_4, by decide, Or.inl ⟨q1111, Or.inl rfl⟩, rfl, by decide +kernel, fun h => nomatch h⟩, fun _ h => nomatch h⟩
theorem cf_X5_153 : CfV RX5 153 RX5 yX5_read cX5_read 3 none 0 := ⟨⟨q1285, q1287, qs35, q58, q1288⟩, rfl, by decide +kernel, by decide +kernel, by decide +kernel⟩
theorem cf_X5_156 : CfV RX5 156 RX5 yX5_does cX5_does 4 (some .int) 0 := ⟨⟨q1297, q1299, qs38, q58, q1300⟩, rfl, by decide +kernel, by decide +kernel, by decide +kernel⟩
theorem gf_X5_150 : ∀ x ∈ ([(4, 15)] : List (Nat × Nat)), GF RX5 150 x.1 x.2 := List.forall_mem_cons.mpr ⟨⟨_, _, _, "BarnPicturesModel", qcl_4, by decide, Or.inl ⟨q1111, Or.inl rfl⟩⟩, fun _ h => nomatch h⟩
theorem gf_X5_13 : ∀ x ∈ ([(4, 1)] : List (Nat × Nat)), GF RX5 13 x.1 x.2 := List.forall_mem_cons.mpr ⟨⟨_, _, _, "BarnPicturesModel", qcl_4, by decide, Or.inl ⟨q1097, Or.inl rfl⟩⟩, fun _ h => nomatch h⟩
theorem cf_X5_159 : CfV RX5 159 RX5 yX5_go cX5_go 5 (some .int) 1 := ⟨⟨q1281, q1283, qs34, q58, q1284⟩, rfl, by decide +kernel, by decide +kernel, by decide +kernel⟩
theorem cf_X5_164 : CfV RX5 164 RX5 yX5_putAside cX5_putAside 2 none 0 := ⟨⟨q1306, q1308, qs40, q58, q1309⟩, rfl, by decide +kernel, by decide +kernel, by decide +kernel⟩
theorem cf_X5_167 : CfV RX5 167 RX5 yX5_putBack cX5_putBack 2 none 0 := ⟨⟨q1310, q1312, qs41, q58, q1313⟩, rfl, by decide +kernel, by decide +kernel, by decide +kernel⟩
theorem gf_X12_13 : ∀ x ∈ ([(17, 1)] : List (Nat × Nat)), GF RX12 13 x.1 x.2 := List.forall_mem_cons.mpr ⟨⟨_, _, _, "BarnPictures$Stop", qcl_17, by decide, Or.inl ⟨q992, Or.inl rfl⟩⟩, fun _ h => nomatch h⟩
theorem cf_X12_17 : CfU RX12 17 RX7 "BarnPictures$Refusal" ⟨"BarnPictures$Refusal", "code", "()I"⟩ yX7_code cX7_code 1 (some .int) 0 ∧ CfU RX12 17 RX8 "BarnPictures$Refusal" ⟨"BarnPictures$Refusal", "code", "()I"⟩ yX8_code cX8_code 1 (some .int) 0 := ⟨⟨⟨q1009, q638, q643, q487, q63, q489, Or.inr (qnw_in q637 rfl)⟩, by decide +kernel, by decide +kernel, by decide +kernel⟩, ⟨⟨q1009, q638, q639, q640, q69, q641, Or.inr (qnw_in q637 rfl)⟩, by decide +kernel, by decide +kernel, by decide +kernel⟩⟩
theorem gf_X12_7 : ∀ x ∈ ([(17, 0)] : List (Nat × Nat)), GF RX12 7 x.1 x.2 := List.forall_mem_cons.mpr ⟨⟨_, _, _, "BarnPictures$Stop", qcl_17, by decide, Or.inl ⟨q991, Or.inl rfl⟩⟩, fun _ h => nomatch h⟩
theorem gf_X0_141 : ∀ x ∈ ([(0, 4)] : List (Nat × Nat)), GF RX0 141 x.1 x.2 := List.forall_mem_cons.mpr ⟨⟨_, _, _, "BarnPictures", qcl_0, by decide, Or.inl ⟨q267, Or.inl rfl⟩⟩, fun _ h => nomatch h⟩
theorem cf_X0_146 : CfV RX0 146 RX12 yX12_told cX12_told 2 (some .int) 1 := ⟨⟨q1005, q1006, q1007, q75, q1008⟩, rfl, by decide +kernel, by decide +kernel, by decide +kernel⟩
theorem gf_X5_30 : ∀ x ∈ ([(4, 9)] : List (Nat × Nat)), GF RX5 30 x.1 x.2 := List.forall_mem_cons.mpr ⟨⟨_, _, _, "BarnPicturesModel", qcl_4, by decide, Or.inl ⟨q1105, Or.inl rfl⟩⟩, fun _ h => nomatch h⟩
theorem gf_X5_26 : ∀ x ∈ ([(4, 8)] : List (Nat × Nat)), GF RX5 26 x.1 x.2 := List.forall_mem_cons.mpr ⟨⟨_, _, _, "BarnPicturesModel", qcl_4, by decide, Or.inl ⟨q1104, Or.inl rfl⟩⟩, fun _ h => nomatch h⟩
theorem cf_X0_149 : CfF RX0 149 RJ2 yL_isEmpty yJ2_isEmpty cJ2_isEmpty 1 (some .boolean) 0 := ⟨⟨q1015, q1018, q1020, q53, q1022, by simp [qFw]⟩, by decide +kernel, by decide +kernel, by decide +kernel⟩
theorem pf_X0_153 : ∀ x ∈ ([(0, 1)] : List (Nat × Nat)), PF RX0 153 x.1 x.2 (.object "BarnPictures$Tour") false := List.forall_mem_cons.mpr ⟨⟨_, _, _, "BarnPictures", qcl_0, by decide, Or.inl ⟨q264, Or.inl rfl⟩, rfl, by decide +kernel, fun h => nomatch h⟩, fun _ h => nomatch h⟩
theorem gf_X0_156 : ∀ x ∈ ([(1, 7)] : List (Nat × Nat)), GF RX0 156 x.1 x.2 := List.forall_mem_cons.mpr ⟨⟨_, _, _, "BarnPictures$Tour", qcl_1, by decide, Or.inr ⟨_, qnw_in q163 rfl, rfl⟩⟩, fun _ h => nomatch h⟩
theorem pf_X5_170 : ∀ x ∈ ([(4, 5)] : List (Nat × Nat)), PF RX5 170 x.1 x.2 .boolean false := List.forall_mem_cons.mpr ⟨⟨_, _, _, "BarnPicturesModel", qcl_4, by decide, Or.inl ⟨q1101, Or.inl rfl⟩, rfl, by decide +kernel, fun h => nomatch h⟩, fun _ h => nomatch h⟩
theorem gf_X5_19 : ∀ x ∈ ([(4, 4)] : List (Nat × Nat)), GF RX5 19 x.1 x.2 := List.forall_mem_cons.mpr ⟨⟨_, _, _, "BarnPicturesModel", qcl_4, by decide, Or.inl ⟨q1100, Or.inl rfl⟩⟩, fun _ h => nomatch h⟩
theorem gf_X0_153 : ∀ x ∈ ([(0, 1)] : List (Nat × Nat)), GF RX0 153 x.1 x.2 := List.forall_mem_cons.mpr ⟨⟨_, _, _, "BarnPictures", qcl_0, by decide, Or.inl ⟨q264, Or.inl rfl⟩⟩, fun _ h => nomatch h⟩
theorem gf_X5_170 : ∀ x ∈ ([(4, 5)] : List (Nat × Nat)), GF RX5 170 x.1 x.2 := List.forall_mem_cons.mpr ⟨⟨_, _, _, "BarnPicturesModel", qcl_4, by decide, Or.inl ⟨q1101, Or.inl rfl⟩⟩, fun _ h => nomatch h⟩
theorem cf_X3_33 : CfV RX3 33 RX3 yX3_copy cX3_copy 2 (some (.object "BarnPictures$Reel")) 0 := ⟨⟨q1041, q288, q289, q49, q290⟩, rfl, by decide +kernel, by decide +kernel, by decide +kernel⟩
theorem cf_X3_37 : CfV RX3 37 RX3 yX3_isGone cX3_isGone 1 (some .boolean) 0 := ⟨⟨q1042, q633, q634, q49, q635⟩, rfl, by decide +kernel, by decide +kernel, by decide +kernel⟩
theorem cf_X3_41 : CfV RX3 41 RX3 yX3_wears cX3_wears 3 (some .int) 1 := ⟨⟨q1043, q629, q630, q49, q631⟩, rfl, by decide +kernel, by decide +kernel, by decide +kernel⟩
theorem cf_X0_159 : CfV RX0 159 RX1 yX1_isReel cX1_isReel 2 (some .boolean) 1 := ⟨⟨q1035, q499, q500, q47, q501⟩, rfl, by decide +kernel, by decide +kernel, by decide +kernel⟩
theorem gf_X0_164 : ∀ x ∈ ([(1, 0)] : List (Nat × Nat)), GF RX0 164 x.1 x.2 := List.forall_mem_cons.mpr ⟨⟨_, _, _, "BarnPictures$Tour", qcl_1, by decide, Or.inr ⟨_, qnw_in q148 rfl, rfl⟩⟩, fun _ h => nomatch h⟩
theorem gf_X0_168 : ∀ x ∈ ([(2, 0), (3, 0)] : List (Nat × Nat)), GF RX0 168 x.1 x.2 := List.forall_mem_cons.mpr ⟨⟨_, _, _, "BarnPictures$Thing", qcl_2, by decide, Or.inr ⟨_, qnw_in q119 rfl, rfl⟩⟩, List.forall_mem_cons.mpr ⟨⟨_, _, _, "BarnPictures$Thing", qcl_3, by decide, Or.inr ⟨_, qnw_in q119 rfl, rfl⟩⟩, fun _ h => nomatch h⟩⟩
theorem gf_X0_173 : ∀ x ∈ ([(2, 2)] : List (Nat × Nat)), GF RX0 173 x.1 x.2 := List.forall_mem_cons.mpr ⟨⟨_, _, _, "BarnPictures$Reel", qcl_2, by decide, Or.inr ⟨_, qnw_in q106 rfl, rfl⟩⟩, fun _ h => nomatch h⟩
theorem gf_X0_178 : ∀ x ∈ ([(2, 3)] : List (Nat × Nat)), GF RX0 178 x.1 x.2 := List.forall_mem_cons.mpr ⟨⟨_, _, _, "BarnPictures$Reel", qcl_2, by decide, Or.inr ⟨_, qnw_in q109 rfl, rfl⟩⟩, fun _ h => nomatch h⟩
theorem gf_X0_181 : ∀ x ∈ ([(2, 4)] : List (Nat × Nat)), GF RX0 181 x.1 x.2 := List.forall_mem_cons.mpr ⟨⟨_, _, _, "BarnPictures$Reel", qcl_2, by decide, Or.inr ⟨_, qnw_in q111 rfl, rfl⟩⟩, fun _ h => nomatch h⟩
theorem gf_X0_184 : ∀ x ∈ ([(2, 5)] : List (Nat × Nat)), GF RX0 184 x.1 x.2 := List.forall_mem_cons.mpr ⟨⟨_, _, _, "BarnPictures$Reel", qcl_2, by decide, Or.inr ⟨_, qnw_in q114 rfl, rfl⟩⟩, fun _ h => nomatch h⟩
theorem cf_X0_187 : CfV RX0 187 RX3 yX3_bears cX3_bears 3 (some .int) 0 := ⟨⟨q1037, q1038, q1039, q49, q1040⟩, rfl, by decide +kernel, by decide +kernel, by decide +kernel⟩
theorem cf_X5_173 : CfV RX5 173 RX5 yX5_bears cX5_bears 5 (some .int) 1 := ⟨⟨q1334, q1336, qs42, q58, q1337⟩, rfl, by decide +kernel, by decide +kernel, by decide +kernel⟩
theorem gf_X0_190 : ∀ x ∈ ([(1, 1)] : List (Nat × Nat)), GF RX0 190 x.1 x.2 := List.forall_mem_cons.mpr ⟨⟨_, _, _, "BarnPictures$Tour", qcl_1, by decide, Or.inr ⟨_, qnw_in q151 rfl, rfl⟩⟩, fun _ h => nomatch h⟩
theorem gf_X0_194 : ∀ x ∈ ([(3, 1)] : List (Nat × Nat)), GF RX0 194 x.1 x.2 := List.forall_mem_cons.mpr ⟨⟨_, _, _, "BarnPictures$Generator", qcl_3, by decide, Or.inr ⟨_, qnw_in q141 rfl, rfl⟩⟩, fun _ h => nomatch h⟩
theorem cf_X0_197 : CfS RX0 197 yX0_isBarn cX0_isBarn 1 (some .boolean) 1 := ⟨⟨q1052, q1053, q46, q1054⟩, by decide +kernel, by decide +kernel, by decide +kernel⟩
theorem cf_X0_200 : CfS RX0 200 yX0_mileOf cX0_mileOf 1 (some .int) 1 := ⟨⟨q1055, q379, q46, q380⟩, by decide +kernel, by decide +kernel, by decide +kernel⟩
theorem cf_X0_203 : CfS RX0 203 yX0_seatsOf cX0_seatsOf 1 (some .int) 1 := ⟨⟨q1056, q622, q46, q623⟩, by decide +kernel, by decide +kernel, by decide +kernel⟩
theorem cf_X0_206 : CfV RX0 206 RX1 yX1_reelsIn cX1_reelsIn 4 (some .int) 1 := ⟨⟨q1057, q583, q584, q47, q585⟩, rfl, by decide +kernel, by decide +kernel, by decide +kernel⟩
theorem cf_X0_209 : CfV RX0 209 RX1 yX1_minutesIn cX1_minutesIn 4 (some .int) 1 := ⟨⟨q1058, q591, q592, q47, q593⟩, rfl, by decide +kernel, by decide +kernel, by decide +kernel⟩
theorem cf_X0_212 : CfV RX0 212 RX1 yX1_peopleFor cX1_peopleFor 5 (some .int) 1 := ⟨⟨q1059, q613, q614, q47, q615⟩, rfl, by decide +kernel, by decide +kernel, by decide +kernel⟩
theorem cf_X0_215 : CfV RX0 215 RX1 yX1_reason cX1_reason 2 (some .int) 1 := ⟨⟨q1060, q579, q580, q47, q581⟩, rfl, by decide +kernel, by decide +kernel, by decide +kernel⟩
theorem gf_X0_218 : ∀ x ∈ ([(1, 3)] : List (Nat × Nat)), GF RX0 218 x.1 x.2 := List.forall_mem_cons.mpr ⟨⟨_, _, _, "BarnPictures$Tour", qcl_1, by decide, Or.inr ⟨_, qnw_in q154 rfl, rfl⟩⟩, fun _ h => nomatch h⟩
theorem gf_X0_222 : ∀ x ∈ ([(1, 4)] : List (Nat × Nat)), GF RX0 222 x.1 x.2 := List.forall_mem_cons.mpr ⟨⟨_, _, _, "BarnPictures$Tour", qcl_1, by decide, Or.inr ⟨_, qnw_in q156 rfl, rfl⟩⟩, fun _ h => nomatch h⟩
theorem cf_X0_225 : CfS RX0 225 yX1_sum cX1_sum 3 (some .int) 1 := ⟨⟨q1073, q1074, q47, q1075⟩, by decide +kernel, by decide +kernel, by decide +kernel⟩
theorem gf_X0_234 : ∀ x ∈ ([(1, 5)] : List (Nat × Nat)), GF RX0 234 x.1 x.2 := List.forall_mem_cons.mpr ⟨⟨_, _, _, "BarnPictures$Tour", qcl_1, by decide, Or.inr ⟨_, qnw_in q158 rfl, rfl⟩⟩, fun _ h => nomatch h⟩
theorem gf_X0_237 : ∀ x ∈ ([(1, 6)] : List (Nat × Nat)), GF RX0 237 x.1 x.2 := List.forall_mem_cons.mpr ⟨⟨_, _, _, "BarnPictures$Tour", qcl_1, by decide, Or.inr ⟨_, qnw_in q161 rfl, rfl⟩⟩, fun _ h => nomatch h⟩
theorem cf_X0_240 : CfV RX0 240 RX1 yX1_things cX1_things 3 (some .int) 0 := ⟨⟨q1081, q507, q508, q47, q509⟩, rfl, by decide +kernel, by decide +kernel, by decide +kernel⟩
theorem cf_X0_243 : CfV RX0 243 RX1 yX1_gone cX1_gone 3 (some .int) 0 := ⟨⟨q1082, q1083, q1084, q47, q1085⟩, rfl, by decide +kernel, by decide +kernel, by decide +kernel⟩
theorem gf_X0_246 : ∀ x ∈ ([(1, 9)] : List (Nat × Nat)), GF RX0 246 x.1 x.2 := List.forall_mem_cons.mpr ⟨⟨_, _, _, "BarnPictures$Tour", qcl_1, by decide, Or.inr ⟨_, qnw_in q167 rfl, rfl⟩⟩, fun _ h => nomatch h⟩
theorem gf_X0_249 : ∀ x ∈ ([(1, 10)] : List (Nat × Nat)), GF RX0 249 x.1 x.2 := List.forall_mem_cons.mpr ⟨⟨_, _, _, "BarnPictures$Tour", qcl_1, by decide, Or.inr ⟨_, qnw_in q169 rfl, rfl⟩⟩, fun _ h => nomatch h⟩
theorem gf_X0_251 : ∀ x ∈ ([(1, 11)] : List (Nat × Nat)), GF RX0 251 x.1 x.2 := List.forall_mem_cons.mpr ⟨⟨_, _, _, "BarnPictures$Tour", qcl_1, by decide, Or.inr ⟨_, qnw_in q171 rfl, rfl⟩⟩, fun _ h => nomatch h⟩
theorem gf_X0_254 : ∀ x ∈ ([(1, 12)] : List (Nat × Nat)), GF RX0 254 x.1 x.2 := List.forall_mem_cons.mpr ⟨⟨_, _, _, "BarnPictures$Tour", qcl_1, by decide, Or.inr ⟨_, qnw_in q173 rfl, rfl⟩⟩, fun _ h => nomatch h⟩
theorem gf_X0_257 : ∀ x ∈ ([(1, 13)] : List (Nat × Nat)), GF RX0 257 x.1 x.2 := List.forall_mem_cons.mpr ⟨⟨_, _, _, "BarnPictures$Tour", qcl_1, by decide, Or.inr ⟨_, qnw_in q175 rfl, rfl⟩⟩, fun _ h => nomatch h⟩
theorem cf_X5_176 : CfV RX5 176 RX5 yX5_gone cX5_gone 3 (some .int) 0 := ⟨⟨q1362, q1364, qs43, q58, q1365⟩, rfl, by decide +kernel, by decide +kernel, by decide +kernel⟩
theorem cf_X5_179 : CfV RX5 179 RX5 yX5_sum cX5_sum 5 (some .int) 2 := ⟨⟨q1366, q1368, qs44, q58, q1369⟩, rfl, by decide +kernel, by decide +kernel, by decide +kernel⟩
theorem nf_L_7 : qNf "BarnPicturesLaw" 7 0 5 fs_0 := ⟨_, _, _, tyX0, rfl, in_X0, tyX0_ok, q76, q77, q46, fd_0, fn_0⟩
theorem cf_L_9 : CfI "BarnPicturesLaw" 9 yX0_init cX0_init 1 0 := ⟨⟨q78, q79, q46, q80, rfl⟩, by decide +kernel, by decide +kernel, by decide +kernel⟩
theorem nf_L_10 : qNf "BarnPicturesLaw" 10 4 16 fs_4 := ⟨_, _, _, tyX5, rfl, in_X5, tyX5_ok, q1086, q1087, q58, fd_4, fn_4⟩
theorem cf_L_12 : CfI "BarnPicturesLaw" 12 yX5_init cX5_init 2 0 := ⟨⟨q1088, q1089, q58, q1090, rfl⟩, by decide +kernel, by decide +kernel, by decide +kernel⟩
theorem cf_L_13 : CfVW "BarnPicturesLaw" 13 RX0 yX0_drive cX0_drive 4 (some .int) [(12, 22, 23, 8)] 1 := ⟨⟨q279, q280, q281, q46, q282⟩, rfl, by decide +kernel, by decide +kernel, by decide +kernel⟩
theorem cf_L_17 : CfV "BarnPicturesLaw" 17 RX5 yX5_drive cX5_drive 2 (some .int) 1 := ⟨⟨q1145, q1146, q1147, q58, q1148⟩, rfl, by decide +kernel, by decide +kernel, by decide +kernel⟩
theorem cf_L_27 : CfVW "BarnPicturesLaw" 27 RX0 yX0_fuel cX0_fuel 5 (some .int) [(12, 23, 24, 8)] 2 := ⟨⟨q538, q539, q540, q46, q541⟩, rfl, by decide +kernel, by decide +kernel, by decide +kernel⟩
theorem cf_L_31 : CfV "BarnPicturesLaw" 31 RX5 yX5_fuel cX5_fuel 4 (some .int) 2 := ⟨⟨q1200, q1201, q1202, q58, q1203⟩, rfl, by decide +kernel, by decide +kernel, by decide +kernel⟩
theorem cf_L_32 : CfVW "BarnPicturesLaw" 32 RX0 yX0_renew cX0_renew 4 (some .int) [(12, 22, 23, 8)] 1 := ⟨⟨q549, q550, q551, q46, q552⟩, rfl, by decide +kernel, by decide +kernel, by decide +kernel⟩
theorem cf_L_35 : CfV "BarnPicturesLaw" 35 RX5 yX5_renew cX5_renew 2 (some .int) 1 := ⟨⟨q1213, q1214, q1215, q58, q1216⟩, rfl, by decide +kernel, by decide +kernel, by decide +kernel⟩
theorem cf_L_36 : CfV "BarnPicturesLaw" 36 RX0 yX0_setPrice cX0_setPrice 4 (some .int) 1 := ⟨⟨q564, q565, q566, q46, q567⟩, rfl, by decide +kernel, by decide +kernel, by decide +kernel⟩
theorem cf_L_39 : CfV "BarnPicturesLaw" 39 RX5 yX5_setPrice cX5_setPrice 2 (some .int) 1 := ⟨⟨q1217, q1218, q1219, q58, q1220⟩, rfl, by decide +kernel, by decide +kernel, by decide +kernel⟩
theorem cf_L_40 : CfVW "BarnPicturesLaw" 40 RX0 yX0_show cX0_show 4 (some .int) [(12, 22, 23, 8), (12, 22, 23, 94)] 1 := ⟨⟨q569, q570, q571, q46, q572⟩, rfl, by decide +kernel, by decide +kernel, by decide +kernel⟩
theorem cf_L_43 : CfV "BarnPicturesLaw" 43 RX5 yX5_show cX5_show 3 (some .int) 1 := ⟨⟨q1225, q1226, q1227, q58, q1228⟩, rfl, by decide +kernel, by decide +kernel, by decide +kernel⟩
theorem cf_L_44 : CfVW "BarnPicturesLaw" 44 RX0 yX0_nextDay cX0_nextDay 3 (some .int) [(12, 21, 22, 8)] 0 := ⟨⟨q644, q645, q646, q46, q647⟩, rfl, by decide +kernel, by decide +kernel, by decide +kernel⟩
theorem cf_L_48 : CfV "BarnPicturesLaw" 48 RX5 yX5_nextDay cX5_nextDay 1 (some .int) 0 := ⟨⟨q1261, q1262, q1263, q58, q1264⟩, rfl, by decide +kernel, by decide +kernel, by decide +kernel⟩
theorem cf_L_49 : CfV "BarnPicturesLaw" 49 RX0 yX0_type cX0_type 2 (some .int) 1 := ⟨⟨q652, q653, q654, q46, q655⟩, rfl, by decide +kernel, by decide +kernel, by decide +kernel⟩
theorem cf_L_53 : CfV "BarnPicturesLaw" 53 RX5 yX5_type cX5_type 2 (some .int) 1 := ⟨⟨q1269, q1270, q1271, q58, q1272⟩, rfl, by decide +kernel, by decide +kernel, by decide +kernel⟩
theorem cf_L_54 : CfV "BarnPicturesLaw" 54 RX0 yX0_clearText cX0_clearText 2 (some .int) 0 := ⟨⟨q742, q743, q744, q46, q745⟩, rfl, by decide +kernel, by decide +kernel, by decide +kernel⟩
theorem cf_L_57 : CfV "BarnPicturesLaw" 57 RX5 yX5_clearText cX5_clearText 2 (some .int) 0 := ⟨⟨q1273, q1274, q1275, q58, q1276⟩, rfl, by decide +kernel, by decide +kernel, by decide +kernel⟩
theorem cf_L_58 : CfVW "BarnPicturesLaw" 58 RX0 yX0_perform cX0_perform 4 (some .int) [(24, 81, 82, 133), (24, 81, 91, 139)] 0 := ⟨⟨q766, q767, q768, q46, q769⟩, rfl, by decide +kernel, by decide +kernel, by decide +kernel⟩
theorem cf_L_61 : CfV "BarnPicturesLaw" 61 RX5 yX5_perform cX5_perform 2 (some .int) 0 := ⟨⟨q1277, q1278, q1279, q58, q1280⟩, rfl, by decide +kernel, by decide +kernel, by decide +kernel⟩
theorem cf_L_62 : CfV "BarnPicturesLaw" 62 RX0 yX0_stopped cX0_stopped 2 (some .int) 1 := ⟨⟨q1001, q1002, q1003, q46, q1004⟩, rfl, by decide +kernel, by decide +kernel, by decide +kernel⟩
theorem cf_L_65 : CfV "BarnPicturesLaw" 65 RX5 yX5_stopped cX5_stopped 2 (some .int) 1 := ⟨⟨q1314, q1315, q1316, q58, q1317⟩, rfl, by decide +kernel, by decide +kernel, by decide +kernel⟩
theorem cf_L_66 : CfV "BarnPicturesLaw" 66 RX0 yX0_undo cX0_undo 1 (some .int) 0 := ⟨⟨q1010, q1011, q1012, q46, q1013⟩, rfl, by decide +kernel, by decide +kernel, by decide +kernel⟩
theorem cf_L_69 : CfV "BarnPicturesLaw" 69 RX5 yX5_undo cX5_undo 2 (some .int) 0 := ⟨⟨q1318, q1319, q1320, q58, q1321⟩, rfl, by decide +kernel, by decide +kernel, by decide +kernel⟩
theorem cf_L_70 : CfV "BarnPicturesLaw" 70 RX0 yX0_keep cX0_keep 1 (some .int) 0 := ⟨⟨q1023, q1024, q1025, q46, q1026⟩, rfl, by decide +kernel, by decide +kernel, by decide +kernel⟩
theorem cf_L_73 : CfV "BarnPicturesLaw" 73 RX5 yX5_keep cX5_keep 2 (some .int) 0 := ⟨⟨q1322, q1323, q1324, q58, q1325⟩, rfl, by decide +kernel, by decide +kernel, by decide +kernel⟩
theorem cf_L_74 : CfV "BarnPicturesLaw" 74 RX0 yX0_restore cX0_restore 1 (some .int) 0 := ⟨⟨q1027, q1028, q1029, q46, q1030⟩, rfl, by decide +kernel, by decide +kernel, by decide +kernel⟩
theorem cf_L_77 : CfV "BarnPicturesLaw" 77 RX5 yX5_restore cX5_restore 2 (some .int) 0 := ⟨⟨q1326, q1327, q1328, q58, q1329⟩, rfl, by decide +kernel, by decide +kernel, by decide +kernel⟩
theorem cf_L_78 : CfV "BarnPicturesLaw" 78 RX0 yX0_reel cX0_reel 4 (some .int) 2 := ⟨⟨q1031, q1032, q1033, q46, q1034⟩, rfl, by decide +kernel, by decide +kernel, by decide +kernel⟩
theorem cf_L_81 : CfV "BarnPicturesLaw" 81 RX5 yX5_reel cX5_reel 3 (some .int) 2 := ⟨⟨q1330, q1331, q1332, q58, q1333⟩, rfl, by decide +kernel, by decide +kernel, by decide +kernel⟩
theorem cf_L_82 : CfV "BarnPicturesLaw" 82 RX0 yX0_generator cX0_generator 3 (some .int) 2 := ⟨⟨q1044, q1045, q1046, q46, q1047⟩, rfl, by decide +kernel, by decide +kernel, by decide +kernel⟩
theorem cf_L_85 : CfV "BarnPicturesLaw" 85 RX5 yX5_generator cX5_generator 3 (some .int) 2 := ⟨⟨q1338, q1339, q1340, q58, q1341⟩, rfl, by decide +kernel, by decide +kernel, by decide +kernel⟩
theorem cf_L_86 : CfV "BarnPicturesLaw" 86 RX0 yX0_barn cX0_barn 3 (some .int) 2 := ⟨⟨q1048, q1049, q1050, q46, q1051⟩, rfl, by decide +kernel, by decide +kernel, by decide +kernel⟩
theorem cf_L_89 : CfV "BarnPicturesLaw" 89 RX5 yX5_barn cX5_barn 3 (some .int) 2 := ⟨⟨q1342, q1343, q1344, q58, q1345⟩, rfl, by decide +kernel, by decide +kernel, by decide +kernel⟩
theorem cf_L_90 : CfV "BarnPicturesLaw" 90 RX0 yX0_bestBarn cX0_bestBarn 3 (some .int) 0 := ⟨⟨q1061, q1062, q1063, q46, q1064⟩, rfl, by decide +kernel, by decide +kernel, by decide +kernel⟩
theorem cf_L_93 : CfV "BarnPicturesLaw" 93 RX5 yX5_bestBarn cX5_bestBarn 4 (some .int) 0 := ⟨⟨q1346, q1347, q1348, q58, q1349⟩, rfl, by decide +kernel, by decide +kernel, by decide +kernel⟩
theorem cf_L_94 : CfV "BarnPicturesLaw" 94 RX0 yX0_ifPrice cX0_ifPrice 3 (some .int) 2 := ⟨⟨q1065, q1066, q1067, q46, q1068⟩, rfl, by decide +kernel, by decide +kernel, by decide +kernel⟩
theorem cf_L_97 : CfV "BarnPicturesLaw" 97 RX5 yX5_ifPrice cX5_ifPrice 3 (some .int) 2 := ⟨⟨q1350, q1351, q1352, q58, q1353⟩, rfl, by decide +kernel, by decide +kernel, by decide +kernel⟩
theorem cf_L_98 : CfV "BarnPicturesLaw" 98 RX0 yX0_showOf cX0_showOf 3 (some .int) 2 := ⟨⟨q1069, q1070, q1071, q46, q1072⟩, rfl, by decide +kernel, by decide +kernel, by decide +kernel⟩
theorem cf_L_101 : CfV "BarnPicturesLaw" 101 RX5 yX5_showOf cX5_showOf 3 (some .int) 2 := ⟨⟨q1354, q1355, q1356, q58, q1357⟩, rfl, by decide +kernel, by decide +kernel, by decide +kernel⟩
theorem cf_L_102 : CfV "BarnPicturesLaw" 102 RX0 yX0_count cX0_count 3 (some .int) 1 := ⟨⟨q1077, q1078, q1079, q46, q1080⟩, rfl, by decide +kernel, by decide +kernel, by decide +kernel⟩
theorem cf_L_105 : CfV "BarnPicturesLaw" 105 RX5 yX5_count cX5_count 2 (some .int) 1 := ⟨⟨q1358, q1359, q1360, q58, q1361⟩, rfl, by decide +kernel, by decide +kernel, by decide +kernel⟩
theorem cf_L_23 : CfVW "BarnPicturesLaw" 23 RX0 yX0_moveGenerator cX0_moveGenerator 5 (some .int) [(12, 23, 24, 8)] 2 := ⟨⟨q530, q531, q532, q46, q533⟩, rfl, by decide +kernel, by decide +kernel, by decide +kernel⟩
theorem cf_L_26 : CfV "BarnPicturesLaw" 26 RX5 yX5_moveGenerator cX5_moveGenerator 4 (some .int) 2 := ⟨⟨q1193, q1194, q1195, q58, q1196⟩, rfl, by decide +kernel, by decide +kernel, by decide +kernel⟩
theorem cf_L_18 : CfVW "BarnPicturesLaw" 18 RX0 yX0_moveReel cX0_moveReel 5 (some .int) [(12, 23, 24, 8)] 2 := ⟨⟨q490, q491, q492, q46, q493⟩, rfl, by decide +kernel, by decide +kernel, by decide +kernel⟩
theorem cf_L_22 : CfV "BarnPicturesLaw" 22 RX5 yX5_moveReel cX5_moveReel 4 (some .int) 2 := ⟨⟨q1167, q1168, q1169, q58, q1170⟩, rfl, by decide +kernel, by decide +kernel, by decide +kernel⟩
