/-! THE SYSTEM's checks of arguments -/
section
variable {z : gZ} {S : gS} {EV : gEV} {Q : State → Prop} {M0 : gM} {T : gTag → Prop} {A : gAd} {U : gV} {L : gLL} {k n pc : Nat} {ls : List (Option Value)} {mc ms d : Nat} {R : gR} {RX : String → Prop}
theorem t_throw0 (X : CX z S EV) (hR : z.2.2.2.1 = gRm d mc ms) {cls : String} {names : List String} {ik ic : Nat} (hQ : Q = gTe z EV T M0 A U R RX mc ms) (hE : ∀ x ∈ z.2.2.2.2.2.2.2.2.2.exceptionTable.toList, False)
    (hcls : Bundle.fit cls = true) (hnames : ∀ n ∈ names, Bundle.fit n = true) (hk : Cond.classLink S.2.1 ik cls ∈ lw_all) (hini : Cond.initialized cls ∈ lw_all) (hat : ∀ w ∈ vx_at0 S.2.1 ic cls names, w ∈ lw_tbl ∧ (goodWord w = true ∨ gKind w = true))
    (hgood : ∀ w ∈ Cond.classLink S.2.1 ik cls :: Cond.initialized cls :: vx_at0 S.2.1 ic cls names, vx_ot w = true)
    (d0 : S.2.2.2.2.1 pc = some (.new ik, 3)) (d3 : S.2.2.2.2.1 (pc + 3) = some (.dup, 1)) (d4 : S.2.2.2.2.1 (pc + 4) = some (.invokespecial ic, 3)) (d7 : S.2.2.2.2.1 (pc + 7) = some (.athrow, 1))
    (hf : names.length + 3 < d) (hlo : 13 * (names.length + 1) + 42 ≤ 64 * d) (hkc : k + 1 ≤ mc) (hns : n + 6 ≤ ms) (hp : RX cls) : gTd z S EV Q T M0 A U L k n pc ls [] :=
  fun M h1 h2 h3 => g_throw0 X hR hQ hE hcls hnames hk hini hat hgood d0 d3 d4 d7 hf hlo hkc hns ⟨hp, h1, h3⟩
end
abbrev cIAE : String := "java/lang/IllegalArgumentException"
abbrev cISE : String := "java/lang/IllegalStateException"
abbrev cIOB : String := "java/lang/IndexOutOfBoundsException"
theorem fitN : ∀ n ∈ ["java/lang/RuntimeException", "java/lang/Exception"], Bundle.fit n = true := by decide +kernel
theorem tc_limited (l : Launch) (EV : gEV) {A : gAd} {U : gV} {v lo hi : Int} (hv : inR v) (hlo : inR lo) (hhi : inR hi) : TC l yX1_limited cX1_limited 3 none 6 1 6 EV tF [.int (iI v), .int (iI lo), .int (iI hi)] A U [] (fun w A' U' L' => rV none A U [] w A' U' L' ∧ lo ≤ v ∧ v ≤ hi) (fun E => E = cIAE ∧ ¬ (lo ≤ v ∧ v ≤ hi)) := by
  refine t_body tbX1_limited tkX1_limited (by decide) (by intro v hv; simp only [List.mem_cons, List.not_mem_nil, or_false] at hv; rcases hv with rfl | rfl | rfl <;> rfl) (Nat.le_of_ble_eq_true rfl) (fun M0 z Q X hl hR hQ hE => ?_)
  refine t_run X 2 (pc1 := 2) (ls1 := [_, _, _]) (st1 := [_, _]) rfl ?_
  refine t_br X (pc1 := 10) (st1 := []) rfl (fun b9 => ?_) (fun b9 => ?_)
  · have c2 : v < lo := cLt b9 (by omega) (by omega)
    exact t_throw0 X hR hQ hE (by decide +kernel) fitN q1263 q70 at_limited og_limited rfl rfl rfl rfl (by decide) (by decide) (by decide) (by decide) ⟨rfl, by omega⟩
  · have c2 : lo ≤ v := cNl b9 (by omega) (by omega)
    refine t_run X 2 (pc1 := 7) (ls1 := [_, _, _]) (st1 := [_, _]) rfl ?_
    refine t_br X (pc1 := 18) (st1 := []) rfl (fun b9 => ?_) (fun b9 => ?_)
    · have c7 : v ≤ hi := cLe b9 (by omega) (by omega)
      exact t_vret X hQ rfl rfl (by decide) (by decide) ⟨⟨rfl, rfl, rfl, rfl⟩, c2, c7⟩
    · have c7 : hi < v := cNe b9 (by omega) (by omega)
      exact t_throw0 X hR hQ hE (by decide +kernel) fitN q1263 q70 at_limited og_limited rfl rfl rfl rfl (by decide) (by decide) (by decide) (by decide) ⟨rfl, by omega⟩
theorem tc_allowed (l : Launch) (EV : gEV) {A : gAd} {U : gV} (p : Prop) [Decidable p] : TC l yX1_allowed cX1_allowed 1 none 6 1 6 EV tF [.int (iI (bI p))] A U [] (fun w A' U' L' => rV none A U [] w A' U' L' ∧ p) (fun E => E = cISE ∧ ¬ p) := by
  refine t_body tbX1_allowed tkX1_allowed (by decide) (by intro v hv; simp only [List.mem_cons, List.not_mem_nil, or_false] at hv; rcases hv with rfl <;> rfl) (Nat.le_of_ble_eq_true rfl) (fun M0 z Q X hl hR hQ hE => ?_)
  refine t_run X 1 (pc1 := 1) (ls1 := [_]) (st1 := [_]) rfl ?_
  refine t_br X (pc1 := 12) (st1 := []) rfl (fun b9 => ?_) (fun b9 => ?_)
  · exact t_vret X hQ rfl rfl (by decide) (by decide) ⟨⟨rfl, rfl, rfl, rfl⟩, bI_t b9⟩
  · exact t_throw0 X hR hQ hE (by decide +kernel) fitN q1295 q84 at_allowed og_allowed rfl rfl rfl rfl (by decide) (by decide) (by decide) (by decide) ⟨rfl, bI_f b9⟩
theorem tc_there (l : Launch) (EV : gEV) {A : gAd} {U : gV} {v m : Int} (hv : inR v) (hm : inR m) : TC l yX1_there cX1_there 2 none 6 1 6 EV tF [.int (iI v), .int (iI m)] A U [] (fun w A' U' L' => rV none A U [] w A' U' L' ∧ 0 ≤ v ∧ v < m) (fun E => E = cIOB ∧ ¬ (0 ≤ v ∧ v < m)) := by
  refine t_body tbX1_there tkX1_there (by decide) (by intro v hv; simp only [List.mem_cons, List.not_mem_nil, or_false] at hv; rcases hv with rfl | rfl <;> rfl) (Nat.le_of_ble_eq_true rfl) (fun M0 z Q X hl hR hQ hE => ?_)
  refine t_run X 1 (pc1 := 1) (ls1 := [_, _]) (st1 := [_]) rfl ?_
  refine t_br X (pc1 := 9) (st1 := []) rfl (fun b9 => ?_) (fun b9 => ?_)
  · have c1 : v < 0 := cLt b9 (by omega) (by omega)
    exact t_throw0 X hR hQ hE (by decide +kernel) fitN q1732 q90 at_there og_there rfl rfl rfl rfl (by decide) (by decide) (by decide) (by decide) ⟨rfl, by omega⟩
  · have c1 : 0 ≤ v := cNl b9 (by omega) (by omega)
    refine t_run X 2 (pc1 := 6) (ls1 := [_, _]) (st1 := [_, _]) rfl ?_
    refine t_br X (pc1 := 17) (st1 := []) rfl (fun b9 => ?_) (fun b9 => ?_)
    · have c6 : v < m := cLt b9 (by omega) (by omega)
      exact t_vret X hQ rfl rfl (by decide) (by decide) ⟨⟨rfl, rfl, rfl, rfl⟩, c1, c6⟩
    · have c6 : m ≤ v := cNl b9 (by omega) (by omega)
      exact t_throw0 X hR hQ hE (by decide +kernel) fitN q1732 q90 at_there og_there rfl rfl rfl rfl (by decide) (by decide) (by decide) (by decide) ⟨rfl, by omega⟩
