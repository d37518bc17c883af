set_option maxRecDepth 1000000
theorem bad1.site9 : siteWord_1_9.before bad1.args0 bad1.about = true := siteT_ok (x := ⟨"TreeOdds", "follows", "(I)I"⟩) (midx := 32) (σ := shp_ siteWord_1_9) (pc := 78) (index := 247) (by decide +kernel) (by decide +kernel)
