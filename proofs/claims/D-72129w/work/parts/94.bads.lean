set_option maxRecDepth 1000000
theorem bad1.site7 : siteWord_1_7.before bad1.args0 bad1.about = true := by decide +kernel
