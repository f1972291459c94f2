/-! ===== the component: its exceptions, ranges, box(number) (rows printed by tools/p77.py) ===== -/
theorem zat_of {L : List Cond} (h1 : L.all (fun w => lw_tbl.any (fun x => decide (x = w))) = true) (h2 : L.all (fun w => goodWord w || zNok w) = true) : ∀ w ∈ L, w ∈ lw_all ∨ (w ∈ lw_tbl ∧ zNok w = true) := by
  intro w hw
  have a := List.all_eq_true.mp h1 w hw
  have b := List.all_eq_true.mp h2 w hw
  obtain ⟨x, hx, he⟩ := List.any_eq_true.mp a
  have he' : x = w := of_decide_eq_true he
  subst he'
  rcases (Bool.or_eq_true _ _).mp b with g | g
  · exact Or.inl (List.mem_filter.mpr ⟨hx, g⟩)
  · exact Or.inr ⟨hx, g⟩
theorem zat_J10 : ∀ w ∈ vx_at0 "ColumnarPress" 33 "java/lang/IndexOutOfBoundsException" ["java/lang/RuntimeException", "java/lang/Exception"], w ∈ lw_all ∨ (w ∈ lw_tbl ∧ zNok w = true) := zat_of (by decide +kernel) (by decide +kernel)
theorem zat_J19 : ∀ w ∈ vx_at0 "ColumnarPress" 36 "java/lang/IllegalArgumentException" ["java/lang/RuntimeException", "java/lang/Exception"], w ∈ lw_all ∨ (w ∈ lw_tbl ∧ zNok w = true) := zat_of (by decide +kernel) (by decide +kernel)
theorem zat_J22 : ∀ w ∈ vx_at0 "ColumnarPress" 39 "java/lang/IllegalStateException" ["java/lang/RuntimeException", "java/lang/Exception"], w ∈ lw_all ∨ (w ∈ lw_tbl ∧ zNok w = true) := zat_of (by decide +kernel) (by decide +kernel)
theorem zat_J9 : ∀ w ∈ vx_at0 "ColumnarPress" 42 "java/lang/UnsupportedOperationException" ["java/lang/RuntimeException", "java/lang/Exception"], w ∈ lw_all ∨ (w ∈ lw_tbl ∧ zNok w = true) := zat_of (by decide +kernel) (by decide +kernel)
theorem zat_J27 : ∀ w ∈ vx_at0 "ColumnarPress" 45 "java/util/NoSuchElementException" ["java/lang/RuntimeException", "java/lang/Exception"], w ∈ lw_all ∨ (w ∈ lw_tbl ∧ zNok w = true) := zat_of (by decide +kernel) (by decide +kernel)
theorem zat_J30 : ∀ w ∈ vx_at0 "ColumnarPress" 303 "java/lang/ArithmeticException" ["java/lang/RuntimeException", "java/lang/Exception"], w ∈ lw_all ∨ (w ∈ lw_tbl ∧ zNok w = true) := zat_of (by decide +kernel) (by decide +kernel)
