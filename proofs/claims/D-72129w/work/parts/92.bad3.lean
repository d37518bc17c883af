set_option maxRecDepth 1000000
theorem bad1.site1 : siteWord_1_1.before bad1.args0 bad1.about = true := by decide +kernel
theorem bad1.site2 : siteWord_1_2.before bad1.args0 bad1.about = true := by decide +kernel
theorem bad1.site3 : siteWord_1_3.before bad1.args0 bad1.about = true := by decide +kernel
theorem bad1.site4 : siteWord_1_4.before bad1.args0 bad1.about = true := by decide +kernel
theorem bad1.site5 : siteWord_1_5.before bad1.args0 bad1.about = true := by decide +kernel
theorem bad1.site11 : siteWord_1_11.before bad1.args0 bad1.about = true := by decide +kernel
theorem bad1.site12 : siteWord_1_12.before bad1.args0 bad1.about = true := by decide +kernel
theorem bad1.site13 : siteWord_1_13.before bad1.args0 bad1.about = true := by decide +kernel
theorem bad1.site14 : siteWord_1_14.before bad1.args0 bad1.about = true := by decide +kernel
theorem bad1.given : given_1.before bad1.args0 bad1.about = true := by decide +kernel
