def ccN : List String := ["SumColours$Member", "SumColours$Loose", "SumColours$Free", "SumColours$Shy", "SumColours$Lone"]
theorem cc_size : ∀ A ∈ ccN, ∀ B ∈ ccN, ∀ h ∈ ["module java.base", "unnamed module"], (ccT (dotted A) (dotted B) h == notModelled) = false ∧ (stringBytes (stringToUtf16 (ccT (dotted A) (dotted B) h))).size ≤ 200 := by decide +kernel
