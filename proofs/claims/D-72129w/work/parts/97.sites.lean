set_option maxRecDepth 1000000
theorem bad1.site10 : siteWord_1_10.before bad1.args0 bad1.about = true := siteT_ok (x := ⟨"TreeOdds", "follows", "(I)I"⟩) (midx := 32) (σ := shp_ siteWord_1_10) (pc := 84) (index := 250) (by decide +kernel) (by decide +kernel)
